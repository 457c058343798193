/-! the lexers: signs, scans, words -/
set_option maxRecDepth 100000
set_option maxHeartbeats 4000000
abbrev isL (c : Int) : Prop := (97 ≤ c ∧ c ≤ 122) ∨ (65 ≤ c ∧ c ≤ 90)
abbrev isD (c : Int) : Prop := 48 ≤ c ∧ c ≤ 57
abbrev isLD (c : Int) : Prop := isL c ∨ isD c
abbrev isS (c : Int) : Prop := (32 ≤ c ∧ c ≤ 126) ∧ ¬ c = 39
abbrev sgn (c : Int) : Prop := c = 58 ∨ c = 59 ∨ c = 44 ∨ c = 46 ∨ c = 61 ∨ c = 60 ∨ c = 40 ∨ c = 41 ∨ c = 123 ∨ c = 125 ∨ c = 64 ∨ c = 45
theorem m_isLetter_c {d : Nat} {a : Int} {σ : mM} {Q : mA} (h : Q (bI (isL a)) σ) : m_isLetter d a σ Q := by
  refine m_isLetter_r (fun _ => ?_)
  by_cases hl : isL a
  · rw [bI_t hl] at h
    repeat' (first | apply And.intro | intro _)
    all_goals first | exact h | (exfalso; omega)
  · rw [bI_f hl] at h
    repeat' (first | apply And.intro | intro _)
    all_goals first | exact h | (exfalso; omega)
theorem xL_isLetter_c {d : Nat} {a : Int} {σ : mM} {Q : mA} (h : Q (bI (isL a)) σ) : xL_isLetter d a σ Q := by
  refine xL_isLetter_r (fun _ => ?_)
  by_cases hl : isL a
  · rw [bI_t hl] at h
    repeat' (first | apply And.intro | intro _)
    all_goals first | exact h | (exfalso; omega)
  · rw [bI_f hl] at h
    repeat' (first | apply And.intro | intro _)
    all_goals first | exact h | (exfalso; omega)
theorem m_isDigit_c {d : Nat} {a : Int} {σ : mM} {Q : mA} (h : Q (bI (isD a)) σ) : m_isDigit d a σ Q := by
  refine m_isDigit_r (fun _ => ?_)
  by_cases hl : isD a
  · rw [bI_t hl] at h
    repeat' (first | apply And.intro | intro _)
    all_goals first | exact h | (exfalso; omega)
  · rw [bI_f hl] at h
    repeat' (first | apply And.intro | intro _)
    all_goals first | exact h | (exfalso; omega)
theorem xL_isDigit_c {d : Nat} {a : Int} {σ : mM} {Q : mA} (h : Q (bI (isD a)) σ) : xL_isDigit d a σ Q := by
  refine xL_isDigit_r (fun _ => ?_)
  by_cases hl : isD a
  · rw [bI_t hl] at h
    repeat' (first | apply And.intro | intro _)
    all_goals first | exact h | (exfalso; omega)
  · rw [bI_f hl] at h
    repeat' (first | apply And.intro | intro _)
    all_goals first | exact h | (exfalso; omega)
theorem xL_isSign_c {d : Nat} {a : Int} {σ : mM} {Q : mA} (h : Q (bI (isS a)) σ) : xL_isSign d a σ Q := by
  refine xL_isSign_r (fun _ => ?_)
  by_cases hl : isS a
  · rw [bI_t hl] at h
    repeat' (first | apply And.intro | intro _)
    all_goals first | exact h | (exfalso; omega)
  · rw [bI_f hl] at h
    repeat' (first | apply And.intro | intro _)
    all_goals first | exact h | (exfalso; omega)
theorem m_isSign_c {d : Nat} {a : Int} {σ : mM} {Q : mA} (h : Q (bI (sgn a)) σ) : m_isSign d a σ Q := by
  refine m_isSign_r (fun _ => ?_)
  by_cases hl : sgn a
  · rw [bI_t hl] at h
    repeat' (first | apply And.intro | intro _)
    all_goals first | exact h | (exfalso; omega)
  · rw [bI_f hl] at h
    repeat' (first | apply And.intro | intro _)
    all_goals first | exact h | (exfalso; omega)
def hx (σ : mM) (k : Int) : Int := if k < σ 162 7 then σ 169 k else 0
theorem hx_in {σ : mM} {k : Int} (h : k < σ 162 7) : hx σ k = σ 169 k := if_pos h
theorem hx_out {σ : mM} {k : Int} (h : σ 162 7 ≤ k) : hx σ k = 0 := if_neg (by omega)
theorem xL_here_c {d : Nat} {a : Int} {σ : mM} {Q : mA} (h0 : 0 ≤ a) (h1 : σ 162 7 ≤ 4000) (h : Q (hx σ a) σ) : xL_here d a σ Q := by
  refine xL_here_r (fun _ => ⟨fun q => ?_, fun q => ⟨⟨h0, by omega⟩, ?_⟩⟩)
  · rw [hx_out q] at h; exact h
  · rw [hx_in q] at h; exact h
/-- the end of a scan -/
theorem ex_end (P : Int → Prop) {a n : Int} (h : a ≤ n) : ∃ e, a ≤ e ∧ e ≤ n ∧ (∀ i, a ≤ i → i < e → P i) ∧ (e = n ∨ ¬ P e) := by
  have main : ∀ (k : Nat) (a : Int), a ≤ n → (n - a).toNat = k → ∃ e, a ≤ e ∧ e ≤ n ∧ (∀ i, a ≤ i → i < e → P i) ∧ (e = n ∨ ¬ P e) := by
    intro k
    induction k with
    | zero => intro a h1 h2; exact ⟨a, by omega, h1, fun i x y => by omega, Or.inl (by omega)⟩
    | succ k ih =>
      intro a h1 h2
      by_cases hp : P a
      · obtain ⟨e, e1, e2, e3, e4⟩ := ih (a + 1) (by omega) (by omega)
        refine ⟨e, by omega, e2, fun i x y => ?_, e4⟩
        by_cases hi : i = a
        · rw [hi]; exact hp
        · exact e3 i (by omega) y
      · exact ⟨a, Int.le_refl _, h1, fun i x y => by omega, Or.inr hp⟩
  exact main _ a h rfl
theorem run_to {T : Int → mA → Prop} {i0 n : Int} (hi : i0 ≤ n) (step : ∀ i, i0 ≤ i → i < n → ∀ Q : mA, T (i + 1) Q → T i Q) : ∀ Q : mA, T n Q → T i0 Q := by
  have main : ∀ (k : Nat) (i : Int), i0 ≤ i → i ≤ n → (n - i).toNat = k → ∀ Q : mA, T n Q → T i Q := by
    intro k
    induction k with
    | zero =>
      intro i h1 h2 h3 Q h
      have : i = n := by omega
      rw [this]; exact h
    | succ k ih => intro i h1 h2 h3 Q h; exact step i h1 (by omega) Q (ih (i + 1) (by omega) (by omega) (by omega) Q h)
  exact main _ i0 (Int.le_refl _) hi rfl
theorem fst_k {T K : Int → mA → Prop} {P : Int → Prop} {n : Int} (hn : 0 ≤ n) (hr : ∀ (i : Int) (Q : mA), 0 ≤ i → (i = n → K n Q) → (i < n → (P i → K i Q) ∧ (¬ P i → T (i + 1) Q)) → i ≤ n → T i Q) : ∃ r, isFst P n r ∧ ∀ Q : mA, K (if r = -1 then n else r) Q → T 0 Q := by
  have main : ∀ (k : Nat) (i : Int), 0 ≤ i → i ≤ n → (n - i).toNat ≤ k → (∀ j, 0 ≤ j → j < i → ¬ P j) → ∃ r, isFst P n r ∧ ∀ Q : mA, K (if r = -1 then n else r) Q → T i Q := by
    intro k
    induction k with
    | zero =>
      intro i h0 h9 hk hp
      exact ⟨-1, Or.inl ⟨rfl, fun j a b => hp j a (by omega)⟩, fun Q hQ => hr i Q h0 (fun _ => hQ) (fun q => by omega) h9⟩
    | succ k ih =>
      intro i h0 h9 hk hp
      by_cases hn : n ≤ i
      · exact ⟨-1, Or.inl ⟨rfl, fun j a b => hp j a (by omega)⟩, fun Q hQ => hr i Q h0 (fun _ => hQ) (fun q => by omega) h9⟩
      · by_cases hP : P i
        · refine ⟨i, Or.inr ⟨h0, by omega, hP, hp⟩, fun Q hQ => hr i Q h0 (fun q => by omega) (fun _ => ⟨fun _ => ?_, fun q => absurd hP q⟩) h9⟩
          rw [if_neg (by omega)] at hQ
          exact hQ
        · obtain ⟨r, h1, h2⟩ := ih (i + 1) (by omega) (by omega) (by omega) (fun j a b => by
            by_cases e : j = i
            · rw [e]; exact hP
            · exact hp j a (by omega))
          exact ⟨r, h1, fun Q hQ => hr i Q h0 (fun q => by omega) (fun _ => ⟨fun q => absurd q hP, fun _ => h2 Q hQ⟩) h9⟩
  exact main _ 0 (by omega) hn (Nat.le_refl _) (fun j a b => by omega)
/-! ### MarkHouse's scans -/
def xac (f : Int → Int) (a : Int) (k : Nat) : Int := pkR (bl f a (min k 8)) 0 * pw8 (8 - min k 8)
theorem xac_s {f : Int → Int} {a : Int} {k : Nat} (hk : k < 8) (h : okB (bl f a (k + 1))) : or64 (xac f a k) (shl64 (f (a + k)) (56 - 8 * (k : Int))) = xac f a (k + 1) := by
  unfold xac
  rw [Nat.min_eq_left (by omega), Nat.min_eq_left (by omega)]
  have e := pk_x (l := bl f a k) (c := f (a + k)) (s := 56 - 8 * (k : Int)) h (by rw [bl_len]; omega) (by rw [bl_len])
  rw [bl_len] at e
  rw [e]
  show _ = pkR (bl f a k ++ [f (a + k)]) 0 * _
  rw [List.length_append, bl_len]
  rfl
theorem x_scan {d : Nat} {a e : Int} {σ : mM} (ha : 0 ≤ a) (hn : σ 162 7 ≤ 4000) (h1 : a ≤ e) (h2 : e ≤ σ 162 7) (hP : ∀ i, a ≤ i → i < e → isLD (σ 169 i)) (he : e = σ 162 7 ∨ ¬ isLD (σ 169 e)) :
    (e - a ≤ 8 → ∀ Q : mA, xL_name0_72 d a e (xac (σ 169) a (e - a).toNat) 0 σ Q → xL_name0 d a σ Q) ∧ (8 < e - a → ∀ Q : mA, Q (-1) σ → xL_name0 d a σ Q) := by
  have hok : ∀ k : Nat, a + k ≤ e → okB (bl (σ 169) a k) := fun k hk => bl_ok k (fun i x y => by have := hP i x (by omega); omega)
  have hgo : ∀ Q : mA, xL_name0_4 d a e (xac (σ 169) a (e - a).toNat) σ Q → xL_name0 d a σ Q := by
    intro Q hQ
    refine xL_name0_r (fun _ => ?_)
    have := run_to (T := fun i Q => xL_name0_4 d a i (xac (σ 169) a (i - a).toNat) σ Q) h1 (by
      intro i g1 g2 Q hQ
      have hc := hP i g1 g2
      have hi : i < σ 162 7 := by omega
      obtain ⟨k, hk⟩ : ∃ k : Nat, i = a + k := ⟨(i - a).toNat, by omega⟩
      have ek : (i - a).toNat = k := by omega
      have ek1 : (i + 1 - a).toNat = k + 1 := by omega
      simp only [ek1] at hQ
      have h26 : xL_name0_26 d a i (xac (σ 169) a k) σ Q := by
        refine xL_name0_26_r (fun _ => ⟨by unfold ok32; omega, fun q => ⟨by unfold ok32; omega, ?_⟩, fun q => xL_here_c (by omega) hn ⟨by unfold ok32; omega, by unfold ok32; omega, by unfold ok32; omega, fun v hv => ⟨by unfold ok32; omega, ?_⟩⟩⟩)
        · have e0 : xac (σ 169) a (k + 1) = xac (σ 169) a k := by
            unfold xac
            rw [Nat.min_eq_right (show 8 ≤ k + 1 by omega), Nat.min_eq_right (show 8 ≤ k by omega)]
          rw [e0] at hQ
          exact hQ
        · rw [hx_in hi, show i - a = (k : Int) by omega] at hv
          have e0 := xac_s (f := σ 169) (a := a) (k := k) (by omega) (hok (k + 1) (by omega))
          rw [hk] at hv
          rw [e0] at hv
          rw [hv]
          exact hQ
      simp only [ek]
      refine xL_name0_4_r (fun _ => xL_here_c (by omega) hn (xL_isLetter_c ⟨fun q => xL_here_c (by omega) hn (xL_isDigit_c ⟨fun r => ?_, fun _ => h26⟩), fun _ => h26⟩))
      rw [hx_in hi] at q r
      rw [bI_z] at q r
      exact absurd hc (fun z => z.elim q r)) Q hQ
    have e0 : xac (σ 169) a (a - a).toNat = 0 := by
      rw [show (a - a).toNat = 0 by omega]
      rfl
    simp only [e0] at this
    exact this
  have hno : ¬ isLD (hx σ e) := by
    rcases he with q | q
    · rw [hx_out (by omega)]; decide
    · by_cases z : e < σ 162 7
      · rw [hx_in z]; exact q
      · rw [hx_out (by omega)]; decide
  have hend : ∀ (Q : mA) (v : Int), ((e - a) ≤ 8 → xL_name0_72 d a e v 0 σ Q) → (8 < e - a → Q (-1) σ) → xL_name0_4 d a e v σ Q := by
    intro Q v g1 g2
    refine xL_name0_4_r (fun _ => xL_here_c (by omega) hn (xL_isLetter_c ⟨fun q => xL_here_c (by omega) hn (xL_isDigit_c ⟨fun r => ⟨by unfold ok32; omega, g1, g2⟩, fun r => ?_⟩), fun q => ?_⟩))
    · exfalso
      have : bI (isD (hx σ e)) = 0 := bI_z.mpr (fun z => hno (Or.inr z))
      exact r this
    · exfalso
      have : bI (isL (hx σ e)) = 0 := bI_z.mpr (fun z => hno (Or.inl z))
      exact q this
  exact ⟨fun q Q hQ => hgo Q (hend Q _ (fun _ => hQ) (fun z => by omega)), fun q Q hQ => hgo Q (hend Q _ (fun z => by omega) (fun _ => hQ))⟩
theorem x_word {d : Nat} {a e v : Int} {σ : mM} : ∃ r, isFst (fun i => σ 164 i = v) 31 r ∧ ∀ Q : mA, xL_name0_97 d a e v (if r = -1 then 31 else r) σ Q → xL_name0_72 d a e v 0 σ Q :=
  fst_k (T := fun i Q => xL_name0_72 d a e v i σ Q) (K := fun i Q => xL_name0_97 d a e v i σ Q) (by decide) (by
    intro i Q h0 hn hs h9
    refine xL_name0_72_r (fun _ => ⟨fun q => ?_, fun q => ⟨⟨h0, q⟩, (hs q).1, fun z => ⟨by unfold ok32; omega, (hs q).2 z⟩⟩⟩)
    have : i = 31 := by omega
    rw [this]
    exact hn this)
/-- a lexeme more in MarkHouse -/
def xlx (σ : mM) (kd fm : Int) : mM := ms (ms (ms σ 165 (σ 162 8) kd) 167 (σ 162 8) fm) 162 8 (σ 162 8 + 1)
theorem xL_add_c {d : Nat} {kd fm : Int} {σ : mM} {Q : mA} (h0 : 0 ≤ σ 162 8) (h1 : σ 162 8 < 4001) (h : Q 0 (xlx σ kd fm)) : xL_add d kd fm σ Q :=
  xL_add_r (fun _ => ⟨⟨h0, h1⟩, ⟨h0, h1⟩, by unfold ok32; omega, h⟩)
def mlx (σ : mM) (s f v : Int) : mM := ms (ms (ms (ms σ 283 (σ 279 7) s) 284 (σ 279 7) f) 285 (σ 279 7) v) 279 7 (σ 279 7 + 1)
theorem m_lexeme_c {d : Nat} {s f v : Int} {σ : mM} {Q : mA} (h0 : 0 ≤ σ 279 7) (h1 : σ 279 7 < 4001) (h : Q 0 (mlx σ s f v)) : m_lexeme d s f v σ Q :=
  m_lexeme_r (fun _ => ⟨⟨h0, h1⟩, ⟨h0, h1⟩, ⟨h0, h1⟩, by unfold ok32; omega, h⟩)
/-! ### the model's scans -/
def mac (f : Int → Int) (a : Int) : Nat → Int
  | 0 => 0
  | k + 1 => or64 (shl64 (mac f a k) 8) (f (a + k))
theorem mac_is {f : Int → Int} {a : Int} : ∀ k : Nat, k ≤ 8 → okB (bl f a k) → mac f a k = pkR (bl f a k) 0
  | 0, _, _ => rfl
  | k + 1, hk, h => by
    obtain ⟨h1, h2, h3⟩ := okB_l (l := bl f a k) (c := f (a + k)) h
    show or64 (shl64 (mac f a k) 8) (f (a + k)) = _
    rw [mac_is k (by omega) h1, pk_m h1 (by rw [bl_len]; omega) (by omega) (by omega)]
    exact (pkR_s f a k).symm
theorem m_scan {d : Nat} {a e n : Int} {σ : mM} (ha : 0 ≤ a) (hn : n ≤ 4000) (h1 : a ≤ e) (h2 : e ≤ n) (hP : ∀ i, a ≤ i → i < e → isLD (σ 280 i)) (he : e = n ∨ ¬ isLD (σ 280 e)) :
    ∀ Q : mA, m_cut_107 d n e a (mac (σ 280) a (e - a).toNat) σ Q → m_cut_57 d n a a 0 σ Q := by
  intro Q hQ
  have := run_to (T := fun i Q => m_cut_57 d n i a (mac (σ 280) a (i - a).toNat) σ Q) h1 (by
    intro i g1 g2 Q hQ
    have hc := hP i g1 g2
    obtain ⟨k, hk⟩ : ∃ k : Nat, i = a + k := ⟨(i - a).toNat, by omega⟩
    have ek : (i - a).toNat = k := by omega
    have ek1 : (i + 1 - a).toNat = k + 1 := by omega
    simp only [ek1] at hQ
    simp only [ek]
    have hstep : ∀ v : Int, v = or64 (shl64 (mac (σ 280) a k) 8) (σ 280 i) → ok32 (i + 1) ∧ m_cut_57 d n (i + 1) a v σ Q := by
      intro v hv
      rw [hk] at hv
      have e0 : v = mac (σ 280) a (k + 1) := hv
      rw [e0]
      exact ⟨by unfold ok32; omega, hQ⟩
    refine m_cut_57_r (fun _ => ⟨fun q => by omega, fun q => ⟨⟨by omega, by omega⟩, m_isLetter_c ⟨fun r => ⟨⟨by omega, by omega⟩, m_isDigit_c ⟨fun t => ?_, fun t => ⟨⟨by omega, by omega⟩, hstep⟩⟩⟩, fun r => ⟨⟨by omega, by omega⟩, hstep⟩⟩⟩⟩)
    rw [bI_z] at r t
    exact absurd hc (fun z => z.elim r t)) Q (by
    refine m_cut_57_r (fun _ => ⟨fun q => hQ, fun q => ⟨⟨by omega, by omega⟩, m_isLetter_c ⟨fun r => ⟨⟨by omega, by omega⟩, m_isDigit_c ⟨fun t => hQ, fun t => ?_⟩⟩, fun r => ?_⟩⟩⟩)
    · exfalso
      rcases he with z | z
      · omega
      · exact t (bI_z.mpr (fun y => z (Or.inr y)))
    · exfalso
      rcases he with z | z
      · omega
      · exact r (bI_z.mpr (fun y => z (Or.inl y))))
  have e0 : mac (σ 280) a (a - a).toNat = 0 := by
    rw [show (a - a).toNat = 0 by omega]
    rfl
  simp only [e0] at this
  exact this
