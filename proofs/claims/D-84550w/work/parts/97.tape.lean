/-! tape and out: feed, end, out -/
set_option maxRecDepth 100000
set_option maxHeartbeats 4000000
/-- n bytes: in MarkHouse as bytes at ax, in the model as 0 .. 255 at am -/
def bytR (ax am : Nat) (n : Int) (σx σm : mM) : Prop := ∀ i, 0 ≤ i → i < n → (0 ≤ σm am i ∧ σm am i ≤ 255) ∧ σx ax i = w8 (σm am i)
def RTp (σx σm : mM) : Prop := σx 157 1 = σm 279 2 ∧ 0 ≤ σm 279 2 ∧ σm 279 2 ≤ 4000 ∧ bytR 158 280 (σm 279 2) σx σm
def ROt (σx σm : mM) : Prop := σx 159 1 = σm 279 4 ∧ 0 ≤ σm 279 4 ∧ σm 279 4 ≤ 8000 ∧ bytR 160 281 (σm 279 4) σx σm
theorem w8_255 (v : Int) : w8 v = w8 (v % 256) := by unfold w8; omega
theorem b255_w8 {v : Int} (h : 0 ≤ v) (h2 : v ≤ 255) : and32 (w8 v) 255 = v := by rw [and32_255]; unfold w8; omega
def sel5 (a b c d e k : Int) : Int := if k < 4 then a else if k < 8 then b else if k < 12 then c else if k < 16 then d else e
theorem xB_add_c {d : Nat} {v : Int} {σ : mM} {Q : mA} (h0 : 0 ≤ σ 157 1) (h1 : σ 157 1 < 4000) (h : Q 0 (ms (ms σ 158 (σ 157 1) (w8 v)) 157 1 (σ 157 1 + 1))) : xB_add d v σ Q := by
  refine xB_add_r (fun _ => ⟨fun q => by omega, fun _ => ⟨⟨h0, h1⟩, by unfold ok32; omega, h⟩⟩)
theorem x_feed_c {d : Nat} {a1 a2 a3 a4 a5 : Int} {σ : mM} (h0 : 0 ≤ σ 157 1) (h1 : σ 157 1 + 20 ≤ 4000) :
    ∃ σ', fr [157, 158] [] σ σ' ∧ σ' 157 1 = σ 157 1 + 20 ∧ (∀ j, 0 ≤ j → j < σ 157 1 → σ' 158 j = σ 158 j) ∧ (∀ k, 0 ≤ k → k < 20 → σ' 158 (σ 157 1 + k) = w8 (shr32 (sel5 a1 a2 a3 a4 a5 k) (24 - 8 * (k % 4)))) ∧ ∀ Q : mA, Q (σ 157 1 + 20) σ' → x_feed d a1 a2 a3 a4 a5 σ Q := by
  obtain ⟨σ', ⟨i1, i2, i3, i4⟩, hk⟩ := all_loop (T := fun i s Q => x_feed_17 d a1 a2 a3 a4 a5 i s Q) (n := 20) (i0 := 0) (σ := σ) (r := σ 157 1 + 20)
    (I := fun i s => s 157 1 = σ 157 1 + i ∧ fr [157, 158] [] σ s ∧ (∀ j, 0 ≤ j → j < σ 157 1 → s 158 j = σ 158 j) ∧ (∀ k, 0 ≤ k → k < i → s 158 (σ 157 1 + k) = w8 (shr32 (sel5 a1 a2 a3 a4 a5 k) (24 - 8 * (k % 4)))))
    (by decide) ⟨by omega, fr_rf, fun _ _ _ => rfl, fun k a b => by omega⟩
    (by
      rintro i s g0 g1 ⟨i1, i2, i3, i4⟩
      have ht : Int.tmod i 4 = i % 4 := Int.tmod_eq_emod_of_nonneg g0
      refine ⟨ms (ms s 158 (s 157 1) (w8 (shr32 (sel5 a1 a2 a3 a4 a5 i) (24 - 8 * (i % 4))))) 157 1 (s 157 1 + 1), ⟨?_, ?_, ?_, ?_⟩, ?_⟩
      · rw [mse]; omega
      · exact fr_w (fr_w i2 (by decide) (by decide)) (by decide) (by decide)
      · intro j a b
        rw [msn (by decide), msi (by omega)]
        exact i3 j a b
      · intro k a b
        rw [msn (by decide), msx]
        split
        · have : k = i := by omega
          rw [this]
        · exact i4 k a (by omega)
      · intro Q hQ
        have hb : ok32 (8 * (i % 4)) ∧ ok32 (24 - 8 * (i % 4)) ∧ ok32 (i + 1) := by unfold ok32; omega
        refine x_feed_17_r (fun _ => ⟨fun q => by omega, fun _ => ?_⟩)
        rw [ht]
        unfold sel5 at hQ
        refine ⟨fun q4 => ⟨fun q8 => ⟨fun q12 => ⟨fun q16 => ?_, fun q16 => ?_⟩, fun q12 => ?_⟩, fun q8 => ?_⟩, fun q4 => ?_⟩
        · rw [if_neg (by omega), if_neg (by omega), if_neg (by omega), if_neg (by omega)] at hQ
          exact ⟨hb.1, hb.2.1, xB_add_c (by omega) (by omega) ⟨hb.2.2, hQ⟩⟩
        · rw [if_neg (by omega), if_neg (by omega), if_neg (by omega), if_pos (by omega)] at hQ
          exact ⟨hb.1, hb.2.1, xB_add_c (by omega) (by omega) ⟨hb.2.2, hQ⟩⟩
        · rw [if_neg (by omega), if_neg (by omega), if_pos (by omega)] at hQ
          exact ⟨hb.1, hb.2.1, xB_add_c (by omega) (by omega) ⟨hb.2.2, hQ⟩⟩
        · rw [if_neg (by omega), if_pos (by omega)] at hQ
          exact ⟨hb.1, hb.2.1, xB_add_c (by omega) (by omega) ⟨hb.2.2, hQ⟩⟩
        · rw [if_pos (by omega)] at hQ
          exact ⟨hb.1, hb.2.1, xB_add_c (by omega) (by omega) ⟨hb.2.2, hQ⟩⟩)
    (by
      rintro s Q ⟨i1, -⟩ hQ
      refine x_feed_17_r (fun _ => ⟨fun _ => xB_size_r (fun _ => ?_), fun q => by omega⟩)
      rw [i1]
      exact hQ)
  refine ⟨σ', i2, i1, i3, i4, fun Q hQ => x_feed_r (fun _ => xB_has_r (fun _ => ⟨by unfold ok32; omega, fun q => by omega, fun _ => ⟨fun q => by omega, fun _ => hk Q hQ⟩⟩))⟩
theorem x_feed_n {d : Nat} {a1 a2 a3 a4 a5 : Int} {σ : mM} {Q : mA} (h0 : 0 ≤ σ 157 1) (h2 : σ 157 1 ≤ 4000) (h1 : 4000 < σ 157 1 + 20) (h : Q (-1) σ) : x_feed d a1 a2 a3 a4 a5 σ Q :=
  x_feed_r (fun _ => xB_has_r (fun _ => ⟨by unfold ok32; omega, fun _ => ⟨fun _ => h, fun q => by omega⟩, fun q => by omega⟩))
theorem m_four_c {d : Nat} {v : Int} {σ : mM} (h0 : 0 ≤ σ 279 2) (h1 : σ 279 2 + 4 ≤ 4000) :
    ∃ σ', fr [280] [2] σ σ' ∧ σ' 279 2 = σ 279 2 + 4 ∧ (∀ j, 0 ≤ j → j < σ 279 2 → σ' 280 j = σ 280 j) ∧ (∀ k, 0 ≤ k → k < 4 → σ' 280 (σ 279 2 + k) = and32 (shr32 v (24 - 8 * k)) 255) ∧ ∀ Q : mA, Q 0 σ' → m_four d v σ Q := by
  have step : ∀ (s : mM) (l : Int), 0 ≤ l → l ≤ 24 → 0 ≤ s 279 2 → s 279 2 < 4000 → ∀ Q : mA, m_four_3 d v (l + (-8)) (ms (ms s 280 (s 279 2) (and32 (shr32 v l) 255)) 279 2 (s 279 2 + 1)) Q → m_four_3 d v l s Q := by
    intro s l g0 g1 g2 g3 Q hQ
    exact m_four_3_r (fun _ => ⟨fun q => by omega, fun _ => ⟨⟨g2, g3⟩, by unfold ok32; omega, by unfold ok32; omega, hQ⟩⟩)
  obtain ⟨n, hn⟩ : ∃ n, σ 279 2 = n := ⟨_, rfl⟩
  rw [hn] at h0 h1 ⊢
  let s1 := ms (ms σ 280 n (and32 (shr32 v 24) 255)) 279 2 (n + 1)
  let s2 := ms (ms s1 280 (n + 1) (and32 (shr32 v 16) 255)) 279 2 (n + 1 + 1)
  let s3 := ms (ms s2 280 (n + 1 + 1) (and32 (shr32 v 8) 255)) 279 2 (n + 1 + 1 + 1)
  let s4 := ms (ms s3 280 (n + 1 + 1 + 1) (and32 (shr32 v 0) 255)) 279 2 (n + 1 + 1 + 1 + 1)
  have e1 : s1 279 2 = n + 1 := mse
  have e2 : s2 279 2 = n + 1 + 1 := mse
  have e3 : s3 279 2 = n + 1 + 1 + 1 := mse
  have e4 : s4 279 2 = n + 1 + 1 + 1 + 1 := mse
  have f1 : s1 280 = ms σ 280 n (and32 (shr32 v 24) 255) 280 := msn (by decide)
  have f2 : s2 280 = ms s1 280 (n + 1) (and32 (shr32 v 16) 255) 280 := msn (by decide)
  have f3 : s3 280 = ms s2 280 (n + 1 + 1) (and32 (shr32 v 8) 255) 280 := msn (by decide)
  have f4 : s4 280 = ms s3 280 (n + 1 + 1 + 1) (and32 (shr32 v 0) 255) 280 := msn (by decide)
  refine ⟨s4, ?_, by rw [e4]; omega, ?_, ?_, fun Q hQ => ?_⟩
  · exact fr_wm (fr_w (fr_wm (fr_w (fr_wm (fr_w (fr_wm (fr_w fr_rf (by decide) (by decide)) (by decide)) (by decide) (by decide)) (by decide)) (by decide) (by decide)) (by decide)) (by decide) (by decide)) (by decide)
  · intro j a b
    rw [f4, msi (by omega), f3, msi (by omega), f2, msi (by omega), f1, msi (by omega)]
  · intro k a b
    rcases (by omega : k = 0 ∨ k = 1 ∨ k = 2 ∨ k = 3) with rfl | rfl | rfl | rfl
    · rw [f4, msi (by omega), f3, msi (by omega), f2, msi (by omega), f1, show n + 0 = n by omega, mse]; rfl
    · rw [f4, msi (by omega), f3, msi (by omega), f2, mse]; rfl
    · rw [f4, msi (by omega), f3, show n + 2 = n + 1 + 1 by omega, mse]; rfl
    · rw [f4, show n + 3 = n + 1 + 1 + 1 by omega, mse]; rfl
  · refine m_four_r (fun _ => step σ 24 (by decide) (by decide) (by omega) (by omega) Q ?_)
    rw [hn]
    refine step s1 16 (by decide) (by decide) (by omega) (by omega) Q ?_
    rw [e1]
    refine step s2 8 (by decide) (by decide) (by omega) (by omega) Q ?_
    rw [e2]
    refine step s3 0 (by decide) (by decide) (by omega) (by omega) Q ?_
    rw [e3]
    exact m_four_3_r (fun _ => ⟨fun _ => hQ, fun q => by omega⟩)
