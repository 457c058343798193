/-! the lexers side by side: cut -/
set_option maxRecDepth 100000
set_option maxHeartbeats 4000000
/-- the lexemes are the same: j of them, then the end -/
def LexR (j : Int) (s s' : mM) : Prop := 0 ≤ j ∧ j ≤ 4000 ∧ (∀ i, 0 ≤ i → i < j → lexA i s s') ∧ s 165 j = 0 ∧ s' 283 j = 5 ∧ s 167 j = s' 284 j
def CN (σx σm : mM) (r : Int) (s : mM) (r' : Int) (s' : mM) : Prop := fr [162, 165, 166, 167, 168, 169] [] σx s ∧ fr [283, 284, 285] [7] σm s' ∧ s 162 9 = 0 ∧ ∃ j, LexR j s s'
def CF : mM → mM → mM → mM → Prop := FR [0, 161, 162, 165, 166, 167, 168, 169] [283, 284, 285] [7, 11, 12, 13]
theorem cut_par {d : Nat} {n : Int} {σx σm : mM} (h0 : 0 ≤ n) (hn : n ≤ 4000) (hx : σx 157 1 = n) (hb : bytR 158 280 n σx σm) (hS : SS σx) (hX : SX σx) (hSm : SS σm) (hM : SM σm) (hw0 : σm 279 13 = 0) (hb2 : 1 ≤ σx 0 2) (hb3 : 6 ≤ σx 0 3) :
    Par (fun Q Z => xL_cut d σx Q Z) (fun Q => m_cut d n σm Q) (CN σx σm) (CF σx σm) := by
  have hcopy : ∀ i : Nat, (i : Int) ≤ n → ∃ s, fr [162, 169] [] σx s ∧ s 162 = (ms σx 162 7 n) 162 ∧ (∀ j, 0 ≤ j → j < (i : Int) → s 169 j = w8 (σm 280 j)) ∧ ∀ (Q : mA) (Z : mM → Prop), xL_cut_10 d i s Q Z → xL_cut_10 d 0 (ms σx 162 7 n) Q Z := by
    intro i
    induction i with
    | zero => intro _; exact ⟨ms σx 162 7 n, fr_ms (by decide) (by decide), rfl, fun j a b => by omega, fun Q Z q => q⟩
    | succ i ih =>
      intro hi
      obtain ⟨s, g1, g2, g3, g4⟩ := ih (by omega)
      obtain ⟨⟨b0, b1⟩, b2⟩ := hb i (by omega) (by omega)
      have e158 : s 158 i = σx 158 i := by rw [g1.1 158 (by decide) (by decide)]
      have e7 : s 162 7 = n := by rw [g2, mse]
      refine ⟨ms s 169 i (w8 (σm 280 i)), fr_w g1 (by decide) (by decide), by rw [msn (by decide)]; exact g2, fun j a b => ?_, fun Q Z q => g4 Q Z ?_⟩
      · rw [msx]
        split
        · rename_i e; rw [e]
        · exact g3 j a (by omega)
      · refine xL_cut_10_r (fun _ => ⟨fun z => by omega, fun _ => xB_at'_r (fun _ => ⟨⟨by omega, by omega⟩, ⟨by omega, by omega⟩, by unfold ok32; omega, ?_⟩)⟩)
        rw [e158, b2, b255_w8 b0 b1]
        have : ((i + 1 : Nat) : Int) = (i : Int) + 1 := by omega
        rw [this] at q
        exact q
  obtain ⟨s, g1, g2, g3, g4⟩ := hcopy n.toNat (by omega)
  have en : (n.toNat : Int) = n := by omega
  rw [en] at g3 g4
  have e7 : s 162 7 = n := by rw [g2, mse]
  have f1 : fr [162, 169] [] σx (ms (ms s 162 8 0) 162 9 0) := fr_w (fr_w g1 (by decide) (by decide)) (by decide) (by decide)
  have f2 : fr [] [7] σm (ms σm 279 7 0) := fr_mm (by decide)
  have e169 : (ms (ms s 162 8 0) 162 9 0) 169 = s 169 := by rw [msn (by decide), msn (by decide)]
  have e0 : (ms (ms s 162 8 0) 162 9 0) 0 = σx 0 := f1.1 0 (by decide) (by decide)
  have key := lex_all (d := d) (n := n) (σx1 := ms (ms s 162 8 0) 162 9 0) (σm1 := ms σm 279 7 0) hn (by
    intro i i0 i1
    rw [e169, g3 i i0 i1, msn (by decide)]
    exact ⟨(hb i i0 i1).1, rfl⟩) (SS_fr f1 (by decide) hS) (by
    refine ⟨fun w h => ?_, fun w h => ?_, fun w h => ?_⟩
    · rw [f1.1 163 (by decide) (by decide)]; exact hX.1 w h
    · rw [f1.1 164 (by decide) (by decide)]; exact hX.2.1 w h
    · rw [f1.1 229 (by decide) (by decide)]; exact hX.2.2 w h) (SS_fr f2 (by decide) hSm) (fun w h => by rw [f2.1 282 (by decide) (by decide)]; exact hM w h) (by rw [f2.2 13 (by decide)]; exact hw0) (by rw [e0]; exact hb2) (by rw [e0]; exact hb3)
    (n - 0).toNat 0 (ms (ms s 162 8 0) 162 9 0) (ms σm 279 7 0) (Nat.le_refl _) (Int.le_refl _) ⟨fr_rf, fr_rf, by rw [msi (by decide), msi (by decide)]; exact e7, mse, by rw [msi (by decide), mse, mse], by rw [mse]; omega, by rw [mse]; omega, h0, fun i a b => by rw [mse] at b; omega⟩
  refine Par_w (Par_x (fun Q Z q => ?_) (fun Q q => ?_) key) ?_ ?_
  · refine xL_cut_r (fun _ => xB_size_r (fun _ => ?_))
    rw [hx]
    exact g4 Q Z (xL_cut_10_r (fun _ => ⟨fun _ => q, fun z => by omega⟩))
  · exact m_cut_r (fun _ => q)
  · rintro r s1 r' s1' ⟨h1, h2, h3, j, j1, j2, j3, j4, j5, j6⟩
    exact ⟨fr_t (fr_up f1 (by decide) (by decide)) (fr_up h1 (by decide) (by decide)), fr_t (fr_up f2 (by decide) (by decide)) h2, h3, j, j1, j2, j3, j4, j5, j6⟩
  · rintro s1 s1' ⟨h1, h2, h3, h4, h5, h6, h7, h8⟩
    exact ⟨fr_t (fr_up f1 (by decide) (by decide)) (fr_up h1 (by decide) (by decide)), fr_t (fr_up f2 (by decide) (by decide)) h2, h3, h4, h5, by rw [h6, e0], by rw [h7, e0], by rw [h8, e0]⟩
