/-! names as they are packed; runs of both programs side by side -/
set_option maxRecDepth 100000
set_option maxHeartbeats 4000000
/-- the n numbers that f has from a place on -/
def bl (f : Int → Int) (a : Int) : Nat → List Int
  | 0 => []
  | n + 1 => bl f a n ++ [f (a + n)]
theorem bl_len (f : Int → Int) (a : Int) : ∀ n, (bl f a n).length = n
  | 0 => rfl
  | n + 1 => by simp [bl, bl_len f a n]
theorem bl_ok {f : Int → Int} {a : Int} : ∀ n : Nat, (∀ i, a ≤ i → i < a + n → 0 < f i ∧ f i < 128) → okB (bl f a n)
  | 0, _ => fun c h => by cases h
  | n + 1, h => by
    intro c hc
    rcases List.mem_append.mp hc with hc | hc
    · exact bl_ok n (fun i a b => h i a (by omega)) c hc
    · have : c = f (a + n) := by simpa using hc
      rw [this]
      exact h _ (by omega) (by omega)
theorem pkR_s (f : Int → Int) (a : Int) (n : Nat) : pkR (bl f a (n + 1)) 0 = pkR (bl f a n) 0 * 256 + f (a + n) := pkR_app _ _ _
theorem pw8_two : ∀ n : Nat, pw8 n = 2 ^ (8 * n)
  | 0 => rfl
  | n + 1 => by
    show 256 * pw8 n = _
    rw [pw8_two n, show 8 * (n + 1) = 8 * n + 8 by omega, Int.pow_add]
    rw [Int.mul_comm]
    rfl
theorem pw8_le : ∀ {m n : Nat}, m ≤ n → pw8 m ≤ pw8 n
  | m, n, h => by
    obtain ⟨k, rfl⟩ : ∃ k, n = m + k := ⟨n - m, by omega⟩
    induction k with
    | zero => exact Int.le_refl _
    | succ k ih =>
      have := ih (by omega)
      have h2 := pw8_pos (m + k)
      show pw8 m ≤ 256 * pw8 (m + k)
      omega
theorem pkR_two {l : List Int} : okB l → 0 ≤ pkR l 0 ∧ 2 * pkR l 0 < pw8 l.length := by
  have main : ∀ n (l : List Int), l.length = n → okB l → 0 ≤ pkR l 0 ∧ 2 * pkR l 0 < pw8 n := by
    intro n
    induction n with
    | zero =>
      intro l hl _
      have : l = [] := List.length_eq_zero_iff.mp hl
      subst this
      exact ⟨by decide, by decide⟩
    | succ n ih =>
      intro l hl h
      rcases List.eq_nil_or_concat l with rfl | ⟨a, c, rfl⟩
      · simp at hl
      · rw [List.concat_eq_append] at *
        obtain ⟨h1, h2, h3⟩ := okB_l h
        obtain ⟨g1, g2⟩ := ih a (by simp at hl; omega) h1
        rw [pkR_app]
        refine ⟨by omega, ?_⟩
        show _ < 256 * pw8 n
        omega
  exact fun h => main _ l rfl h
theorem pkR_63 {l : List Int} (h : okB l) (hl : l.length ≤ 8) : pkR l 0 < 9223372036854775808 := by
  have h1 := (pkR_two h).2
  have h2 := pw8_le hl
  have h3 : pw8 8 = 18446744073709551616 := by decide
  omega
/-- one byte more, from the right -/
theorem pk_m {l : List Int} {c : Int} (h : okB l) (hl : l.length ≤ 7) (h0 : 0 ≤ c) (h1 : c < 256) : or64 (shl64 (pkR l 0) 8) c = pkR l 0 * 256 + c := by
  have g1 := pkR_two h
  have g2 := pw8_le hl
  have g3 : pw8 7 = 72057594037927936 := by decide
  have e : shl64 (pkR l 0) 8 = pkR l 0 * 256 := shl64_n g1.1 (by decide) (by decide) (by show pkR l 0 * 256 < _; omega)
  rw [e]
  exact or64_n (k := 8) (by omega) h0 (by show pkR l 0 * 256 % 256 = 0; omega) h1 (by omega)
/-- one byte more, from the left -/
theorem pk_x {l : List Int} {c s : Int} (h : okB (l ++ [c])) (hl : l.length ≤ 7) (hs : s = 56 - 8 * (l.length : Int)) : or64 (pkR l 0 * pw8 (8 - l.length)) (shl64 c s) = pkR (l ++ [c]) 0 * pw8 (8 - (l ++ [c]).length) := by
  obtain ⟨h1, h2, h3⟩ := okB_l h
  have g := pkR_two h1
  have hk : 8 - l.length = (7 - l.length) + 1 := by omega
  have hp := pw8_pos (7 - l.length)
  have e1 : pw8 (8 - l.length) = 256 * pw8 (7 - l.length) := by rw [hk]; rfl
  have e2 : (8 - (l ++ [c]).length) = 7 - l.length := by rw [List.length_append, List.length_singleton]; omega
  have e3 : (2 : Int) ^ s.toNat = pw8 (7 - l.length) := by
    rw [pw8_two, show s.toNat = 8 * (7 - l.length) by omega]
  have hb : c * pw8 (7 - l.length) < 9223372036854775808 := by
    have := pw8_le (show 7 - l.length ≤ 7 by omega)
    have g3 : pw8 7 = 72057594037927936 := by decide
    have : c * pw8 (7 - l.length) ≤ 127 * pw8 (7 - l.length) := Int.mul_le_mul_of_nonneg_right (by omega) (by omega)
    omega
  have e4 : shl64 c s = c * pw8 (7 - l.length) := by
    rw [shl64_n (by omega) (by omega) (by omega) (by rw [e3]; exact hb), e3]
  have hsum : pkR l 0 * (256 * pw8 (7 - l.length)) + c * pw8 (7 - l.length) = (pkR l 0 * 256 + c) * pw8 (7 - l.length) := by
    rw [Int.add_mul, Int.mul_assoc]
  have hlt : (pkR l 0 * 256 + c) * pw8 (7 - l.length) < 9223372036854775808 := by
    have q := (pkR_two h).2
    rw [pkR_app] at q
    have q2 : pw8 (l ++ [c]).length * pw8 (7 - l.length) = pw8 8 := by
      rw [← pw8_add]
      congr 1
      simp
      omega
    have q3 : pw8 8 = 18446744073709551616 := by decide
    have q4 : 2 * (pkR l 0 * 256 + c) * pw8 (7 - l.length) < pw8 (l ++ [c]).length * pw8 (7 - l.length) := Int.mul_lt_mul_of_pos_right q hp
    rw [q2, q3, Int.mul_assoc] at q4
    omega
  rw [e4, e1, e2, pkR_app, ← hsum]
  refine or64_n (k := 8 * (8 - l.length)) (Int.mul_nonneg g.1 (by omega)) (Int.mul_nonneg (by omega) (by omega)) ?_ ?_ (by rw [hsum]; exact hlt)
  · rw [← pw8_two, ← e1]
    exact Int.mul_emod_left _ _
  · rw [← pw8_two, e1]
    have : c * pw8 (7 - l.length) ≤ 127 * pw8 (7 - l.length) := Int.mul_le_mul_of_nonneg_right (by omega) (by omega)
    omega
theorem nmR_of {f : Int → Int} {a : Int} {n : Nat} (h : okB (bl f a n)) (hn : n ≤ 8) : nmR (pkR (bl f a n) 0 * pw8 (8 - n)) (pkR (bl f a n) 0) := ⟨bl f a n, by rw [bl_len]; exact hn, h, rfl, by rw [bl_len]⟩
/-! ### side by side -/
/-- both runs end well with N, or MarkHouse throws and the model goes wrong with F -/
def Par (T1 : mA → (mM → Prop) → Prop) (T2 : mA → Prop) (N : Int → mM → Int → mM → Prop) (F : mM → mM → Prop) : Prop :=
  (∃ r s r' s', (∀ (Q : mA) (Z : mM → Prop), Q r s → T1 Q Z) ∧ (∀ Q : mA, Q r' s' → T2 Q) ∧ N r s r' s') ∨ (∃ s r' s', (∀ (Q : mA) (Z : mM → Prop), Z s → T1 Q Z) ∧ (∀ Q : mA, Q r' s' → T2 Q) ∧ F s s')
theorem Par_n {T1 : mA → (mM → Prop) → Prop} {T2 : mA → Prop} {N : Int → mM → Int → mM → Prop} {F : mM → mM → Prop} {r : Int} {s : mM} {r' : Int} {s' : mM} (h1 : ∀ (Q : mA) (Z : mM → Prop), Q r s → T1 Q Z) (h2 : ∀ Q : mA, Q r' s' → T2 Q) (h : N r s r' s') : Par T1 T2 N F := Or.inl ⟨r, s, r', s', h1, h2, h⟩
theorem Par_f {T1 : mA → (mM → Prop) → Prop} {T2 : mA → Prop} {N : Int → mM → Int → mM → Prop} {F : mM → mM → Prop} {s : mM} {r' : Int} {s' : mM} (h1 : ∀ (Q : mA) (Z : mM → Prop), Z s → T1 Q Z) (h2 : ∀ Q : mA, Q r' s' → T2 Q) (h : F s s') : Par T1 T2 N F := Or.inr ⟨s, r', s', h1, h2, h⟩
/-- each side by a step of its own -/
theorem Par_x {T1 T1' : mA → (mM → Prop) → Prop} {T2 T2' : mA → Prop} {N : Int → mM → Int → mM → Prop} {F : mM → mM → Prop} (h1 : ∀ Q Z, T1' Q Z → T1 Q Z) (h2 : ∀ Q, T2' Q → T2 Q) (h : Par T1' T2' N F) : Par T1 T2 N F := by
  rcases h with ⟨r, s, r', s', a, b, c⟩ | ⟨s, r', s', a, b, c⟩
  · exact Or.inl ⟨r, s, r', s', fun Q Z q => h1 _ _ (a Q Z q), fun Q q => h2 _ (b Q q), c⟩
  · exact Or.inr ⟨s, r', s', fun Q Z q => h1 _ _ (a Q Z q), fun Q q => h2 _ (b Q q), c⟩
theorem Par_w {T1 : mA → (mM → Prop) → Prop} {T2 : mA → Prop} {N N' : Int → mM → Int → mM → Prop} {F F' : mM → mM → Prop} (h : Par T1 T2 N F) (hN : ∀ r s r' s', N r s r' s' → N' r s r' s') (hF : ∀ s s', F s s' → F' s s') : Par T1 T2 N' F' := by
  rcases h with ⟨r, s, r', s', a, b, c⟩ | ⟨s, r', s', a, b, c⟩
  · exact Or.inl ⟨r, s, r', s', a, b, hN _ _ _ _ c⟩
  · exact Or.inr ⟨s, r', s', a, b, hF _ _ c⟩
/-- one after the other; K2 has to come through when the model is wrong -/
theorem Par_b {T1 : mA → (mM → Prop) → Prop} {T2 : mA → Prop} {N N' : Int → mM → Int → mM → Prop} {F F' : mM → mM → Prop} {K1 : Int → mM → mA → (mM → Prop) → Prop} {K2 : Int → mM → mA → Prop}
    (h : Par T1 T2 N F) (hN : ∀ r s r' s', N r s r' s' → Par (K1 r s) (K2 r' s') N' F') (hF : ∀ s r' s', F s s' → ∃ r'' s'', (∀ Q : mA, Q r'' s'' → K2 r' s' Q) ∧ F' s s'') :
    Par (fun Q Z => T1 (fun r s => K1 r s Q Z) Z) (fun Q => T2 (fun r s => K2 r s Q)) N' F' := by
  rcases h with ⟨r, s, r', s', a, b, c⟩ | ⟨s, r', s', a, b, c⟩
  · refine Par_x (T1' := K1 r s) (T2' := K2 r' s') (fun Q Z q => a _ _ q) (fun Q q => b _ q) (hN r s r' s' c)
  · obtain ⟨r'', s'', d, e⟩ := hF s r' s' c
    exact Or.inr ⟨s, r'', s'', fun Q Z q => a _ _ q, fun Q q => b _ (d Q q), e⟩
