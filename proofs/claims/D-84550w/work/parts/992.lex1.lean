/-! the lexers: numbers, texts, words, signs -/
set_option maxRecDepth 100000
set_option maxHeartbeats 4000000
theorem bl_congr {f g : Int → Int} {a : Int} : ∀ n : Nat, (∀ i, a ≤ i → i < a + n → f i = g i) → bl f a n = bl g a n
  | 0, _ => rfl
  | n + 1, h => by
    show bl f a n ++ [f (a + n)] = bl g a n ++ [g (a + n)]
    rw [bl_congr n (fun i x y => h i x (by omega)), h (a + n) (by omega) (by omega)]
def dac (f : Int → Int) (a : Int) : Nat → Int
  | 0 => 0
  | k + 1 => if k < 9 then 10 * dac f a k + f (a + k) - 48 else dac f a k
def p10 : Nat → Int
  | 0 => 1
  | n + 1 => 10 * p10 n
theorem dac_congr {f g : Int → Int} {a : Int} : ∀ n : Nat, (∀ i, a ≤ i → i < a + n → f i = g i) → dac f a n = dac g a n
  | 0, _ => rfl
  | n + 1, h => by
    show (if n < 9 then 10 * dac f a n + f (a + n) - 48 else dac f a n) = (if n < 9 then 10 * dac g a n + g (a + n) - 48 else dac g a n)
    rw [dac_congr n (fun i x y => h i x (by omega)), h (a + n) (by omega) (by omega)]
theorem dac_b {f : Int → Int} {a : Int} : ∀ n : Nat, (∀ i, a ≤ i → i < a + n → isD (f i)) → 0 ≤ dac f a n ∧ dac f a n + 1 ≤ p10 (min n 9)
  | 0, _ => ⟨Int.le_refl _, by show (0 : Int) + 1 ≤ 1; decide⟩
  | n + 1, h => by
    have ih := dac_b n (fun i x y => h i x (by omega))
    have hd := h (a + n) (by omega) (by omega)
    show 0 ≤ (if n < 9 then 10 * dac f a n + f (a + n) - 48 else dac f a n) ∧ (if n < 9 then 10 * dac f a n + f (a + n) - 48 else dac f a n) + 1 ≤ _
    split
    · rename_i q
      rw [Nat.min_eq_left (by omega)] at ih ⊢
      refine ⟨by omega, ?_⟩
      show _ ≤ 10 * p10 n
      omega
    · rw [Nat.min_eq_right (by omega)] at ih ⊢
      exact ih
theorem p10_le : ∀ n, n ≤ 9 → p10 n ≤ 1000000000 ∧ (n ≤ 8 → p10 n ≤ 100000000) := by decide
theorem x_num {d : Nat} {a e : Int} {σ : mM} (ha : 0 ≤ a) (hn : σ 162 7 ≤ 4000) (h1 : a ≤ e) (h2 : e ≤ σ 162 7) (hP : ∀ i, a ≤ i → i < e → isD (σ 169 i)) (he : e = σ 162 7 ∨ ¬ isD (σ 169 e)) (hj : 0 ≤ σ 162 8) (hj2 : σ 162 8 < 4001) :
    (e - a ≤ 9 → ∀ Q : mA, Q e (xlx (ms σ 166 (σ 162 8) (dac (σ 169) a (e - a).toNat)) 2 a) → xL_number d a σ Q) ∧ (9 < e - a → ∀ Q : mA, Q (-1) σ → xL_number d a σ Q) := by
  have hgo : ∀ Q : mA, xL_number_4 d a e (dac (σ 169) a (e - a).toNat) σ Q → xL_number d a σ Q := by
    intro Q hQ
    refine xL_number_r (fun _ => ?_)
    have := run_to (T := fun i Q => xL_number_4 d a i (dac (σ 169) a (i - a).toNat) σ Q) h1 (by
      intro i g1 g2 Q hQ
      have hc := hP i g1 g2
      have hi : i < σ 162 7 := by omega
      obtain ⟨k, hk⟩ : ∃ k : Nat, i = a + k := ⟨(i - a).toNat, by omega⟩
      have ek : (i - a).toNat = k := by omega
      have ek1 : (i + 1 - a).toNat = k + 1 := by omega
      simp only [ek1] at hQ
      simp only [ek]
      have hb := dac_b (f := σ 169) (a := a) k (fun i x y => hP i x (by omega))
      have hp := p10_le (min k 9) (by omega)
      refine xL_number_4_r (fun _ => xL_here_c (by omega) hn (xL_isDigit_c ⟨fun q => ?_, fun _ => ⟨by unfold ok32; omega, fun q => ⟨by unfold ok32; omega, ?_⟩, fun q => ?_⟩⟩))
      · rw [hx_in hi, bI_z] at q
        exact absurd hc q
      · have e0 : dac (σ 169) a (k + 1) = dac (σ 169) a k := if_neg (by omega)
        rw [e0] at hQ
        exact hQ
      · have hp2 := hp.2 (by omega)
        have e0 : dac (σ 169) a (k + 1) = 10 * dac (σ 169) a k + σ 169 (a + k) - 48 := if_pos (by omega)
        refine ⟨by unfold ok32; omega, xL_here_c (by omega) hn ?_⟩
        rw [hx_in hi]
        refine ⟨by unfold ok32; omega, by unfold ok32; omega, fun v hv => ⟨by unfold ok32; omega, ?_⟩⟩
        rw [hv, hk, ← e0]
        rw [hk] at hQ
        exact hQ) Q hQ
    have e0 : dac (σ 169) a (a - a).toNat = 0 := by
      rw [show (a - a).toNat = 0 by omega]
      rfl
    simp only [e0] at this
    exact this
  have hno : ¬ isD (hx σ e) := by
    rcases he with q | q
    · rw [hx_out (by omega)]; decide
    · by_cases z : e < σ 162 7
      · rw [hx_in z]; exact q
      · rw [hx_out (by omega)]; decide
  have hend : ∀ (Q : mA) (v : Int), ((e - a) ≤ 9 → Q e (xlx (ms σ 166 (σ 162 8) v) 2 a)) → (9 < e - a → Q (-1) σ) → xL_number_4 d a e v σ Q := by
    intro Q v g1 g2
    refine xL_number_4_r (fun _ => xL_here_c (by omega) hn (xL_isDigit_c ⟨fun q => ⟨by unfold ok32; omega, fun z => ⟨⟨hj, hj2⟩, xL_add_c ?_ ?_ (g1 z)⟩, g2⟩, fun q => ?_⟩))
    · rw [msn (by decide)]; exact hj
    · rw [msn (by decide)]; exact hj2
    · exfalso
      exact q (bI_z.mpr hno)
  exact ⟨fun q Q hQ => hgo Q (hend Q _ (fun _ => hQ) (fun z => by omega)), fun q Q hQ => hgo Q (hend Q _ (fun z => by omega) (fun _ => hQ))⟩
theorem m_num {d : Nat} {a e n : Int} {σ : mM} (ha : 0 ≤ a) (hn : n ≤ 4000) (h1 : a ≤ e) (h2 : e ≤ n) (hP : ∀ i, a ≤ i → i < e → isD (σ 280 i)) (he : e = n ∨ ¬ isD (σ 280 e)) :
    ∀ Q : mA, m_cut_241 d n e a (dac (σ 280) a (e - a).toNat) σ Q → m_cut_184 d n a a 0 σ Q := by
  intro Q hQ
  have := run_to (T := fun i Q => m_cut_184 d n i a (dac (σ 280) a (i - a).toNat) σ Q) h1 (by
    intro i g1 g2 Q hQ
    have hc := hP i g1 g2
    obtain ⟨k, hk⟩ : ∃ k : Nat, i = a + k := ⟨(i - a).toNat, by omega⟩
    have ek : (i - a).toNat = k := by omega
    have ek1 : (i + 1 - a).toNat = k + 1 := by omega
    simp only [ek1] at hQ
    simp only [ek]
    have hb := dac_b (f := σ 280) (a := a) k (fun i x y => hP i x (by omega))
    have hp := p10_le (min k 9) (by omega)
    refine m_cut_184_r (fun _ => ⟨fun q => by omega, fun q => ⟨⟨by omega, by omega⟩, m_isDigit_c ⟨fun r => ?_, fun _ => ⟨by unfold ok32; omega, fun r => ⟨by unfold ok32; omega, ?_⟩, fun r => ?_⟩⟩⟩⟩)
    · rw [bI_z] at r
      exact absurd hc r
    · have e0 : dac (σ 280) a (k + 1) = dac (σ 280) a k := if_neg (by omega)
      rw [e0] at hQ
      exact hQ
    · have hp2 := hp.2 (by omega)
      have e0 : dac (σ 280) a (k + 1) = 10 * dac (σ 280) a k + σ 280 (a + k) - 48 := if_pos (by omega)
      refine ⟨by unfold ok64; omega, ⟨by omega, by omega⟩, by unfold ok64; omega, by unfold ok64; omega, by unfold ok32; omega, ?_⟩
      rw [e0, ← hk] at hQ
      exact hQ) Q (by
    refine m_cut_184_r (fun _ => ⟨fun q => hQ, fun q => ⟨⟨by omega, by omega⟩, m_isDigit_c ⟨fun r => hQ, fun r => ?_⟩⟩⟩)
    exfalso
    rcases he with z | z
    · omega
    · exact r (bI_z.mpr z))
  have e0 : dac (σ 280) a (a - a).toNat = 0 := by
    rw [show (a - a).toNat = 0 by omega]
    rfl
  simp only [e0] at this
  exact this
/-! ### texts -/
theorem x_txt {d : Nat} {a e : Int} {σ : mM} (ha : 0 ≤ a) (hn : σ 162 7 ≤ 4000) (h0 : a < σ 162 7) (h1 : a + 1 ≤ e) (h2 : e ≤ σ 162 7) (hP : ∀ i, a + 1 ≤ i → i < e → isS (σ 169 i) ∧ i - a ≤ 8) (he : e = σ 162 7 ∨ ¬ (isS (σ 169 e) ∧ e - a ≤ 8)) :
    ∀ Q : mA, xL_text_52 d a e (xac (σ 169) (a + 1) (e - (a + 1)).toNat) σ Q → xL_text d a σ Q := by
  intro Q hQ
  have hok : ∀ k : Nat, a + 1 + k ≤ e → okB (bl (σ 169) (a + 1) k) := fun k hk => bl_ok k (fun i x y => by have := hP i x (by omega); omega)
  have hgo := run_to (T := fun i Q => xL_text_6 d a i (xac (σ 169) (a + 1) (i - (a + 1)).toNat) σ Q) h1 (by
    intro i g1 g2 Q hQ
    have hc := hP i g1 g2
    have hi : i < σ 162 7 := by omega
    obtain ⟨k, hk⟩ : ∃ k : Nat, i = a + 1 + k := ⟨(i - (a + 1)).toNat, by omega⟩
    have ek : (i - (a + 1)).toNat = k := by omega
    have ek1 : (i + 1 - (a + 1)).toNat = k + 1 := by omega
    simp only [ek1] at hQ
    simp only [ek]
    refine xL_text_6_r (fun _ => xL_here_c (by omega) hn (xL_isSign_c ⟨fun q => ?_, fun _ => ⟨by unfold ok32; omega, fun q => by omega, fun q => xL_here_c (by omega) hn ⟨by unfold ok32; omega, by unfold ok32; omega, by unfold ok32; omega, by unfold ok32; omega, fun v hv => ⟨by unfold ok32; omega, ?_⟩⟩⟩⟩))
    · rw [hx_in hi, bI_z] at q
      exact absurd hc.1 q
    · rw [hx_in hi, show i - a - 1 = (k : Int) by omega] at hv
      have e0 := xac_s (f := σ 169) (a := a + 1) (k := k) (by omega) (hok (k + 1) (by omega))
      rw [hk] at hv
      rw [e0] at hv
      rw [hv]
      exact hQ) Q (by
    have hq : ∀ r : Int, r = bI (isS (hx σ e)) → (r = 0 → xL_text_52 d a e (xac (σ 169) (a + 1) (e - (a + 1)).toNat) σ Q) ∧ (¬ r = 0 → (ok32 (e - a) ∧ ((8 < e - a → xL_text_52 d a e (xac (σ 169) (a + 1) (e - (a + 1)).toNat) σ Q) ∧ (e - a ≤ 8 → False)))) := by
      intro r hr
      refine ⟨fun _ => hQ, fun z => ⟨by unfold ok32; omega, fun _ => hQ, fun y => ?_⟩⟩
      have hs : isS (hx σ e) := by
        apply Classical.byContradiction
        intro w
        exact z (by rw [hr]; exact bI_z.mpr w)
      rcases he with w | w
      · rw [hx_out (by omega)] at hs
        omega
      · by_cases v : e < σ 162 7
        · rw [hx_in v] at hs
          exact w ⟨hs, y⟩
        · rw [hx_out (by omega)] at hs
          omega
    have hq := hq _ rfl
    refine xL_text_6_r (fun _ => xL_here_c (by omega) hn (xL_isSign_c ⟨hq.1, fun z => ⟨(hq.2 z).1, (hq.2 z).2.1, fun y => ((hq.2 z).2.2 y).elim⟩⟩)))
  have e0 : xac (σ 169) (a + 1) (a + 1 - (a + 1)).toNat = 0 := by
    rw [show (a + 1 - (a + 1)).toNat = 0 by omega]
    rfl
  simp only [e0] at hgo
  refine xL_text_r (fun _ => ⟨by unfold ok32; omega, fun v hv => ?_⟩)
  rw [hv]
  exact hgo
theorem m_txt {d : Nat} {a e n : Int} {σ : mM} (ha : 0 ≤ a) (hn : n ≤ 4000) (h0 : a < n) (h1 : a + 1 ≤ e) (h2 : e ≤ n) (hP : ∀ i, a + 1 ≤ i → i < e → isS (σ 280 i) ∧ i - a ≤ 8) (he : e = n ∨ ¬ (isS (σ 280 e) ∧ e - a ≤ 8)) :
    ∀ Q : mA, m_cut_349 d n e a (mac (σ 280) (a + 1) (e - (a + 1)).toNat) σ Q → m_cut_281 d n (a + 1) a 0 σ Q := by
  intro Q hQ
  have := run_to (T := fun i Q => m_cut_281 d n i a (mac (σ 280) (a + 1) (i - (a + 1)).toNat) σ Q) h1 (by
    intro i g1 g2 Q hQ
    have hc := hP i g1 g2
    obtain ⟨k, hk⟩ : ∃ k : Nat, i = a + 1 + k := ⟨(i - (a + 1)).toNat, by omega⟩
    have ek : (i - (a + 1)).toNat = k := by omega
    have ek1 : (i + 1 - (a + 1)).toNat = k + 1 := by omega
    simp only [ek1] at hQ
    simp only [ek]
    refine m_cut_281_r (fun _ => ⟨fun q => by omega, fun q => ⟨by unfold ok32; omega, fun r => by omega, fun r => ⟨⟨by omega, by omega⟩, fun t => by omega, fun t => ⟨⟨by omega, by omega⟩, fun t => by omega, fun t => ⟨⟨by omega, by omega⟩, fun t => absurd t hc.1.2, fun t => ⟨⟨by omega, by omega⟩, fun v hv => ⟨by unfold ok32; omega, ?_⟩⟩⟩⟩⟩⟩⟩)
    rw [hk] at hv
    have e0 : v = mac (σ 280) (a + 1) (k + 1) := hv
    rw [e0]
    exact hQ) Q (by
    refine m_cut_281_r (fun _ => ⟨fun q => hQ, fun q => ⟨by unfold ok32; omega, fun r => hQ, fun r => ⟨⟨by omega, by omega⟩, fun t => hQ, fun t => ⟨⟨by omega, by omega⟩, fun t => hQ, fun t => ⟨⟨by omega, by omega⟩, fun t => hQ, fun t => ?_⟩⟩⟩⟩⟩)
    exfalso
    rcases he with z | z
    · omega
    · apply z
      omega)
  have e0 : mac (σ 280) (a + 1) (a + 1 - (a + 1)).toNat = 0 := by
    rw [show (a + 1 - (a + 1)).toNat = 0 by omega]
    rfl
  simp only [e0] at this
  exact this
/-! ### words of the model -/
theorem bl_list (l : List Int) : ∀ n : Nat, n ≤ l.length → bl (fun j => l.getD j.toNat 0) 0 n = l.take n
  | 0, _ => by simp [bl]
  | n + 1, h => by
    show bl _ 0 n ++ [l.getD (0 + (n : Int)).toNat 0] = l.take (n + 1)
    rw [bl_list l n (by omega), show (0 + (n : Int)).toNat = n by omega, List.take_add_one, List.getD_eq_getElem?_getD, List.getElem?_eq_getElem (by omega)]
    rfl
theorem m_packed_c {d w : Nat} {σ : mM} {Q : mA} (hS : SS σ) (hw : w < 31) (h : Q (wnm w) σ) : m_packed d ((2 + 2 * (33 + w) : Nat) : Int) σ Q := by
  have hi : 33 + w < 77 := by omega
  have k := st_k (33 + w) hi
  have e1 := st_w w hw
  let f : Int → Int := fun j => (stl (33 + w)).getD j.toNat 0
  have hgo := run_to (T := fun i Q => m_packed_4 d ((2 + 2 * (33 + w) : Nat) : Int) (mac f 0 i.toNat) i σ Q) (i0 := 0) (n := ((stl (33 + w)).length : Int)) (by omega) (by
    intro i g1 g2 Q hQ
    obtain ⟨j, rfl⟩ := Int.eq_ofNat_of_zero_le g1
    have hj : j < (stl (33 + w)).length := by omega
    refine m_packed_4_r (fun _ => chk_of k.1 (jS_length_c hi ⟨fun q => by omega, fun _ => chk_of k.1 (jS_charAt_c hS hi hj (fun v hv => ⟨by unfold ok32; omega, ?_⟩))⟩))
    have e0 : v = mac f 0 (j + 1) := by
      rw [hv]
      show _ = or64 (shl64 (mac f 0 j) 8) (f (0 + (j : Int)))
      rw [show f (0 + (j : Int)) = (stl (33 + w)).getD j 0 by show (stl (33 + w)).getD (0 + (j : Int)).toNat 0 = _; rw [show (0 + (j : Int)).toNat = j by omega]]
      rfl
    rw [e0]
    have e2 : ((j : Int) + 1).toNat = j + 1 := by omega
    simp only [e2] at hQ
    exact hQ) Q (by
    refine m_packed_4_r (fun _ => chk_of k.1 (jS_length_c hi ⟨fun _ => ?_, fun q => by omega⟩))
    rw [Int.toNat_natCast]
    have hb : bl f 0 (stl (33 + w)).length = stl (33 + w) := by
      have := bl_list (stl (33 + w)) _ (Nat.le_refl _)
      rw [List.take_length] at this
      exact this
    rw [mac_is _ (by rw [e1.1]; exact e1.2.1) (by rw [hb]; exact k.2.2.2.2.2.2), hb, e1.1]
    exact h)
  exact m_packed_r (fun _ => hgo)
theorem m_wordOf_c {d : Nat} {v : Int} {σ : mM} (hS : SS σ) (hM : SM σ) : ∃ r, isFst (fun i => wnm i.toNat = v) 31 r ∧ ∀ Q : mA, Q r σ → m_wordOf d v σ Q := by
  obtain ⟨r, hr, hk⟩ := fst_loop (T := fun i Q => m_wordOf_2 d v i σ Q) (P := fun i => wnm i.toNat = v) (n := 31) (σ := σ) (by
    intro i Q h0 he hs
    obtain ⟨w, rfl⟩ := Int.eq_ofNat_of_zero_le h0
    refine m_wordOf_2_r (fun _ => ⟨he, fun q => ⟨⟨h0, q⟩, ?_⟩⟩)
    have hw : w < 31 := by omega
    have e0 := hM w hw
    have e1 : σ 282 (w : Int) = ((2 + 2 * (33 + w) : Nat) : Int) := e0
    rw [e1]
    exact m_packed_c hS hw ⟨fun z => (hs q).1 z, fun z => ⟨by unfold ok32; omega, (hs q).2 z⟩⟩)
  exact ⟨r, hr, fun Q hQ => m_wordOf_r (fun _ => hk Q hQ)⟩
/-! ### signs of MarkHouse -/
theorem sgn_l : ∀ v : Nat, v < 128 → (((v : Int) ∈ stl 32) ↔ sgn (v : Int)) := by decide +kernel
theorem idx_c {d : Nat} {v : Int} {σ : mM} (hS : SS σ) (h33 : 33 ≤ v) (hv : v ≤ 127) : ∃ r, (0 ≤ r ↔ sgn v) ∧ ∀ Q : mA, Q r σ → jS_indexOf0 d 66 v σ Q := by
  have hlen : (stl 32).length = 12 := by decide
  have hsh : shL σ 67 = 12 := rfl
  obtain ⟨r, hr, hk⟩ := fst_loop (T := fun i Q => jL_indexOfChar_7 d 67 12 (w8 v) i σ Q) (P := fun i => σ 67 i = w8 v) (n := 12) (σ := σ) (by
    intro i Q h0 he hs
    refine jL_indexOfChar_7_r (fun _ => ⟨he, fun q => ⟨⟨h0, by rw [hsh]; exact q⟩, (hs q).1, fun z => ⟨by unfold ok32; omega, (hs q).2 z⟩⟩⟩))
  have hw : w8 v = v := by unfold w8; omega
  have hmem : ∀ j : Nat, j < 12 → σ 67 (Int.ofNat j) = (stl 32).getD j 0 := fun j hj => hS 32 (by decide) j (by rw [hlen]; exact hj)
  refine ⟨r, ?_, fun Q hQ => ?_⟩
  · obtain ⟨u, rfl⟩ := Int.eq_ofNat_of_zero_le (show 0 ≤ v by omega)
    rw [← sgn_l u (by omega)]
    rw [hw] at hr
    constructor
    · intro q
      obtain ⟨g1, g2, g3⟩ := isFst_some hr (by omega)
      obtain ⟨j, rfl⟩ := Int.eq_ofNat_of_zero_le g1
      have hj : j < (stl 32).length := by rw [hlen]; omega
      have := hmem j (by omega)
      rw [← g3]
      show σ 67 (Int.ofNat j) ∈ _
      rw [this, List.getD_eq_getElem?_getD, List.getElem?_eq_getElem hj]
      exact List.getElem_mem hj
    · intro q
      obtain ⟨j, hj, hje⟩ := List.getElem_of_mem q
      apply Classical.byContradiction
      intro z
      have hb := isFst_b hr
      refine isFst_none hr (by omega) (Int.ofNat j) (Int.natCast_nonneg j) (by rw [hlen] at hj; exact Int.ofNat_lt.mpr hj) ?_
      rw [hmem j (by rw [hlen] at hj; exact hj), List.getD_eq_getElem?_getD, List.getElem?_eq_getElem hj]
      exact hje
  · show jS_indexOf0 d ((2 + 2 * 32 : Nat) : Int) v σ Q
    have k := st_k 32 (by decide)
    refine jS_indexOf0_r (fun _ => chk_of k.1 (jS_indexOf1_r (fun _ => chk_of k.1 (jS_isLatin1_c (i := 32) (by decide) ⟨fun q => absurd q (by decide), fun _ => chk_of k.1 ?_⟩))))
    rw [Int.toNat_natCast]
    refine rdk_s k.2.1 (chk_of k.1 (jS_length_c (i := 32) (by decide) (jL_indexOf_r (fun _ => jL_canEncode_r (fun _ => ⟨fun q => by omega, fun _ => ⟨fun q => by omega, fun _ => ⟨fun q => absurd q (by decide), fun _ => jM_max_r (fun _ => ⟨fun q => absurd q (by decide), fun _ => chk_of (st_v (i := 32) (by decide)).1 ?_⟩)⟩⟩⟩)))))
    rw [shL_s (i := 32) (by decide), hlen]
    have hfin : jL_indexOfChar d 67 v 0 12 σ Q := jL_indexOfChar_r (fun _ u hu => by rw [hu]; exact hk Q hQ)
    exact jM_min_r (fun _ => ⟨fun _ => ⟨fun _ => hfin, fun q => absurd q (by decide)⟩, fun _ => ⟨fun _ => hfin, fun q => absurd q (by decide)⟩⟩)
