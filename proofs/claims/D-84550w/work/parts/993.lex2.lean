/-! the lexers side by side -/
set_option maxRecDepth 100000
set_option maxHeartbeats 4000000
/-- the i-th lexeme is the same on both sides -/
def lexA (i : Int) (σx σm : mM) : Prop := σx 167 i = σm 284 i ∧ ((σm 283 i = 0 ∧ σx 165 i = 1 ∧ nmR (σx 168 i) (σm 285 i) ∧ σm 285 i ≠ 0) ∨ (σm 283 i = 1 ∧ σx 165 i = 2 ∧ σx 166 i = σm 285 i ∧ 0 ≤ σm 285 i ∧ σm 285 i ≤ 999999999) ∨ (σm 283 i = 2 ∧ σx 165 i = 3 ∧ nmR (σx 168 i) (σm 285 i)) ∨ (σm 283 i = 3 ∧ σx 165 i = 4 ∧ σx 166 i = σm 285 i) ∨ (σm 283 i = 4 ∧ σx 165 i = 5 ∧ σx 166 i = σm 285 i ∧ 0 ≤ σm 285 i ∧ σm 285 i ≤ 30))
theorem lexA_c {i : Int} {σx σm σx' σm' : mM} (hx : ∀ a ∈ [165, 166, 167, 168], σx' a i = σx a i) (hm : ∀ a ∈ [283, 284, 285], σm' a i = σm a i) (h : lexA i σx σm) : lexA i σx' σm' := by
  unfold lexA at h ⊢
  rw [hx 165 (by decide), hx 166 (by decide), hx 167 (by decide), hx 168 (by decide), hm 283 (by decide), hm 284 (by decide), hm 285 (by decide)]
  exact h
def txR (n : Int) (σx σm : mM) : Prop := ∀ i, 0 ≤ i → i < n → (0 ≤ σm 280 i ∧ σm 280 i ≤ 255) ∧ σx 169 i = w8 (σm 280 i)
def LI (n : Int) (σx1 σm1 : mM) (k : Int) (σx σm : mM) : Prop :=
  fr [162, 165, 166, 167, 168] [] σx1 σx ∧ fr [283, 284, 285] [7] σm1 σm ∧ σx 162 7 = n ∧ σx 162 9 = 0 ∧ σx 162 8 = σm 279 7 ∧ 0 ≤ σm 279 7 ∧ σm 279 7 ≤ k ∧ k ≤ n ∧ ∀ i, 0 ≤ i → i < σm 279 7 → lexA i σx σm
theorem mlx_j {σ : mM} {s f v : Int} : mlx σ s f v 279 7 = σ 279 7 + 1 := mse
theorem mlx_fr {σ : mM} {s f v : Int} : fr [283, 284, 285] [7] σ (mlx σ s f v) := fr_wm (fr_w (fr_w (fr_ms (by decide) (by decide)) (by decide) (by decide)) (by decide) (by decide)) (by decide)
theorem mlx_i {σ : mM} {s f v i : Int} (h : i ≠ σ 279 7) : ∀ a ∈ [283, 284, 285], mlx σ s f v a i = σ a i := by
  intro a ha
  unfold mlx
  rcases (by simpa using ha : a = 283 ∨ a = 284 ∨ a = 285) with rfl | rfl | rfl
  · rw [msn (by decide), msn (by decide), msn (by decide), msi h]
  · rw [msn (by decide), msn (by decide), msi h, msn (by decide)]
  · rw [msn (by decide), msi h, msn (by decide), msn (by decide)]
theorem mlx_v {σ : mM} {s f v : Int} : mlx σ s f v 283 (σ 279 7) = s ∧ mlx σ s f v 284 (σ 279 7) = f ∧ mlx σ s f v 285 (σ 279 7) = v := by
  unfold mlx
  refine ⟨?_, ?_, ?_⟩
  · rw [msn (by decide), msn (by decide), msn (by decide), mse]
  · rw [msn (by decide), msn (by decide), mse]
  · rw [msn (by decide), mse]
theorem xlx_fr {σ : mM} {kd fm : Int} : fr [162, 165, 166, 167, 168] [] σ (xlx σ kd fm) := fr_w (fr_w (fr_ms (by decide) (by decide)) (by decide) (by decide)) (by decide) (by decide)
theorem xlx_162 {σ : mM} {kd fm : Int} : xlx σ kd fm 162 8 = σ 162 8 + 1 ∧ ∀ q, q ≠ 8 → xlx σ kd fm 162 q = σ 162 q := by
  unfold xlx
  refine ⟨mse, fun q hq => ?_⟩
  rw [msi hq, msn (by decide), msn (by decide)]
theorem xlx_v {σ : mM} {kd fm : Int} : xlx σ kd fm 165 (σ 162 8) = kd ∧ xlx σ kd fm 167 (σ 162 8) = fm ∧ xlx σ kd fm 166 = σ 166 ∧ xlx σ kd fm 168 = σ 168 := by
  unfold xlx
  refine ⟨?_, ?_, ?_, ?_⟩
  · rw [msn (by decide), msn (by decide), mse]
  · rw [msn (by decide), mse]
  · rw [msn (by decide), msn (by decide), msn (by decide)]
  · rw [msn (by decide), msn (by decide), msn (by decide)]
theorem xlx_i {σ : mM} {kd fm i : Int} (h : i ≠ σ 162 8) : ∀ a ∈ [165, 166, 167, 168], xlx σ kd fm a i = σ a i := by
  intro a ha
  unfold xlx
  rcases (by simpa using ha : a = 165 ∨ a = 166 ∨ a = 167 ∨ a = 168) with rfl | rfl | rfl | rfl
  · rw [msn (by decide), msn (by decide), msi h]
  · rw [msn (by decide), msn (by decide), msn (by decide)]
  · rw [msn (by decide), msi h, msn (by decide)]
  · rw [msn (by decide), msn (by decide), msn (by decide)]
theorem LI_app {n : Int} {σx1 σm1 : mM} {k k' : Int} {σx σm σ2 : mM} {kd fm s f v : Int} (h : LI n σx1 σm1 k σx σm) (hk : k < k') (hn : k' ≤ n) (h2 : fr [162, 165, 166, 167, 168] [] σx σ2) (h162 : σ2 162 = σx 162) (hi : ∀ i, i ≠ σx 162 8 → ∀ a ∈ [165, 166, 167, 168], σ2 a i = σx a i)
    (hA : lexA (σm 279 7) (xlx σ2 kd fm) (mlx σm s f v)) : LI n σx1 σm1 k' (xlx σ2 kd fm) (mlx σm s f v) := by
  obtain ⟨a1, a2, a3, a4, a5, a6, a7, a8, a9⟩ := h
  have e8 : σ2 162 8 = σx 162 8 := by rw [h162]
  refine ⟨fr_t (fr_t a1 h2) xlx_fr, fr_t a2 mlx_fr, ?_, ?_, ?_, ?_, ?_, hn, ?_⟩
  · rw [xlx_162.2 7 (by decide), h162]; exact a3
  · rw [xlx_162.2 9 (by decide), h162]; exact a4
  · rw [xlx_162.1, e8, mlx_j, a5]
  · rw [mlx_j]; omega
  · rw [mlx_j]; omega
  · intro i i0 i1
    rw [mlx_j] at i1
    by_cases e : i = σm 279 7
    · rw [e]; exact hA
    · refine lexA_c (fun a ha => ?_) (mlx_i e) (a9 i i0 (by omega))
      rw [xlx_i (by rw [e8, a5]; exact e) a ha]
      exact hi i (by rw [a5]; exact e) a ha
/-- MarkHouse throws -/
def xfl (σ : mM) (kd pl : Int) : mM := ms (ms (ms (ms σ 161 0 kd) 161 1 pl) 0 2 (σ 0 2 - 1)) 0 3 (σ 0 3 - 6)
theorem xE_fail_c {d : Nat} {kd pl : Int} {σ : mM} {Q : mA} {Z : mM → Prop} (h2 : 1 ≤ σ 0 2) (h3 : 6 ≤ σ 0 3) (h : Z (xfl σ kd pl)) : xE_fail d kd pl σ Q Z := xE_fail_r (fun _ => ⟨⟨h2, h3⟩, h⟩)
theorem xfl_v {σ : mM} {kd pl : Int} : xfl σ kd pl 161 0 = kd ∧ xfl σ kd pl 161 1 = pl ∧ xfl σ kd pl 0 0 = σ 0 0 ∧ xfl σ kd pl 0 2 = σ 0 2 - 1 ∧ xfl σ kd pl 0 3 = σ 0 3 - 6 ∧ ∀ a, a ≠ 0 → a ≠ 161 → xfl σ kd pl a = σ a := by
  unfold xfl
  refine ⟨?_, ?_, ?_, ?_, ?_, ?_⟩
  · rw [msn (by decide), msn (by decide), msi (by decide), mse]
  · rw [msn (by decide), msn (by decide), mse]
  · rw [msi (by decide), msi (by decide), msn (by decide), msn (by decide)]
  · rw [msi (by decide), mse]
  · rw [mse]
  · intro a h0 h1
    rw [msn h0, msn h0, msn h1, msn h1]
/-- the model goes wrong -/
def mfl (σ : mM) (kd pl : Int) : mM := ms (ms (ms σ 279 13 1) 279 11 kd) 279 12 pl
theorem mfl_v {σ : mM} {kd pl : Int} : mfl σ kd pl 279 13 = 1 ∧ mfl σ kd pl 279 11 = kd ∧ mfl σ kd pl 279 12 = pl ∧ fr [] [11, 12, 13] σ (mfl σ kd pl) := by
  unfold mfl
  refine ⟨?_, ?_, ?_, ?_⟩
  · rw [msi (by decide), msi (by decide), mse]
  · rw [msi (by decide), mse]
  · rw [mse]
  · exact fr_wm (fr_wm (fr_mm (by decide)) (by decide)) (by decide)
theorem m_fault0_c {d : Nat} {kd pl : Int} {σ : mM} {Q : mA} (h0 : σ 279 13 = 0) (h : Q 0 (mfl σ kd pl)) : m_fault0 d kd pl σ Q := m_fault0_r (fun _ => ⟨fun _ => h, fun q => absurd h0 q⟩)
theorem m_fault0_w {d : Nat} {kd pl : Int} {σ : mM} {Q : mA} (h0 : σ 279 13 = 1) (h : Q 0 σ) : m_fault0 d kd pl σ Q := m_fault0_r (fun _ => ⟨fun q => by omega, fun _ => h⟩)
/-- the faults are told alike; only these cells and slots were written -/
def FR (LX LM : List Nat) (SMs : List Int) (σx1 σm1 s s' : mM) : Prop := fr LX [] σx1 s ∧ fr LM SMs σm1 s' ∧ s 161 0 = s' 279 11 ∧ s 161 1 = s' 279 12 ∧ s' 279 13 = 1 ∧ s 0 0 = σx1 0 0 ∧ s 0 2 = σx1 0 2 - 1 ∧ s 0 3 = σx1 0 3 - 6
def LF : mM → mM → mM → mM → Prop := FR [0, 161, 162, 165, 166, 167, 168] [283, 284, 285] [7, 11, 12, 13]
def LN (n : Int) (σx1 σm1 : mM) (r : Int) (s : mM) (r' : Int) (s' : mM) : Prop := fr [162, 165, 166, 167, 168] [] σx1 s ∧ fr [283, 284, 285] [7] σm1 s' ∧ s 162 9 = 0 ∧ ∃ j, 0 ≤ j ∧ j ≤ 4000 ∧ (∀ i, 0 ≤ i → i < j → lexA i s s') ∧ s 165 j = 0 ∧ s' 283 j = 5 ∧ s 167 j = s' 284 j
theorem m_cut_w {d : Nat} {n k : Int} {σ : mM} {Q : mA} (hw : σ 279 13 = 1) (h0 : 0 ≤ σ 279 7) (h1 : σ 279 7 < 4001) (h : Q 0 (mlx σ 5 n 0)) : m_cut_7 d n k σ Q :=
  m_cut_7_r (fun _ => ⟨fun _ => m_lexeme_c h0 h1 h, fun _ => ⟨fun q => by omega, fun _ => m_lexeme_c h0 h1 h⟩⟩)
section LEX
variable {d : Nat} {n : Int} {σx1 σm1 : mM} (hn : n ≤ 4000) (htx : txR n σx1 σm1) (hS : SS σx1) (hX : SX σx1) (hSm : SS σm1) (hM : SM σm1) (hw0 : σm1 279 13 = 0) (hb2 : 1 ≤ σx1 0 2) (hb3 : 6 ≤ σx1 0 3)
theorem SS_fr {L : List Nat} {S : List Int} {σ σ' : mM} (h : fr L S σ σ') (hL : ∀ a ∈ L, a = 0 ∨ 156 ≤ a) (hS : SS σ) : SS σ' := by
  intro i hi j hj
  rw [h.1 (3 + 2 * i) (fun q => by have := hL _ q; omega) (by omega)]
  exact hS i hi j hj
theorem LF_of {σx σm s s' : mM} {kd pl : Int} {k : Int} (h : LI n σx1 σm1 k σx σm) (hs : fr [162, 165, 166, 167, 168] [] σx s) (hs' : fr [283, 284, 285] [7] (mfl σm kd pl) s') : LF σx1 σm1 (xfl s kd pl) s' := by
  obtain ⟨a1, a2, -⟩ := h
  have f := fr_t a1 hs
  have e0 : s 0 = σx1 0 := f.1 0 (by decide) (by decide)
  have v := @mfl_v σm kd pl
  have u := @xfl_v s kd pl
  refine ⟨⟨fun a ha h9 => ?_, fun j _ => ?_⟩, ?_, ?_, ?_, ?_, ?_, ?_, ?_⟩
  · have h1 : a ≠ 0 := fun q => ha (by rw [q]; decide)
    have h2 : a ≠ 161 := fun q => ha (by rw [q]; decide)
    rw [u.2.2.2.2.2 a h1 h2]
    exact (fr_up f (L' := [0, 161, 162, 165, 166, 167, 168]) (S' := []) (by decide) (by decide)).1 a ha h9
  · rw [u.2.2.2.2.2 279 (by decide) (by decide)]
    exact f.2 j (by simp)
  · exact fr_t (fr_up a2 (by decide) (by decide)) (fr_t (fr_up v.2.2.2 (by decide) (by decide)) (fr_up hs' (by decide) (by decide)))
  · rw [u.1, hs'.2 11 (by decide), v.2.1]
  · rw [u.2.1, hs'.2 12 (by decide), v.2.2.1]
  · rw [hs'.2 13 (by decide), v.1]
  · rw [u.2.2.1, e0]
  · rw [u.2.2.2.1, e0]
  · rw [u.2.2.2.2.1, e0]
end LEX
