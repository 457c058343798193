/-! LEVEL 3: words for runs: what is left as it was; searches; truth as a number -/
set_option maxRecDepth 100000
/-- only the cells L are written, and of the model's own object only the slots S -/
def fr (L : List Nat) (S : List Int) (σ σ' : mM) : Prop := (∀ a, a ∉ L → a ≠ 279 → σ' a = σ a) ∧ ∀ j, j ∉ S → σ' 279 j = σ 279 j
theorem fr_rf {L : List Nat} {S : List Int} {σ : mM} : fr L S σ σ := ⟨fun _ _ _ => rfl, fun _ _ => rfl⟩
theorem fr_up {L L' : List Nat} {S S' : List Int} {σ σ1 : mM} (h : fr L S σ σ1) (hs : L ⊆ L') (hS : S ⊆ S') : fr L' S' σ σ1 := ⟨fun a ha => h.1 a (fun q => ha (hs q)), fun a ha => h.2 a (fun q => ha (hS q))⟩
theorem fr_t {L : List Nat} {S : List Int} {σ σ1 σ2 : mM} (h : fr L S σ σ1) (g : fr L S σ1 σ2) : fr L S σ σ2 := ⟨fun a ha hb => (g.1 a ha hb).trans (h.1 a ha hb), fun j hj => (g.2 j hj).trans (h.2 j hj)⟩
theorem fr_a {L : List Nat} {S : List Int} {σ σ' : mM} (h : fr L S σ σ') (a : Nat) (ha : a ∉ L) (hb : a ≠ 279) : σ' a = σ a := h.1 a ha hb
theorem fr_m {L : List Nat} {S : List Int} {σ σ' : mM} (h : fr L S σ σ') (j : Int) (hj : j ∉ S) : σ' 279 j = σ 279 j := h.2 j hj
theorem mse {σ : mM} {a : Nat} {i v : Int} : ms σ a i v a i = v := by unfold ms; simp
theorem msn {σ : mM} {a b : Nat} {i v : Int} (h : b ≠ a) : ms σ a i v b = σ b := by
  funext j
  unfold ms
  rw [if_neg (fun q => h q.1)]
theorem msi {σ : mM} {a : Nat} {i j v : Int} (h : j ≠ i) : ms σ a i v a j = σ a j := by
  unfold ms
  rw [if_neg (fun q => h q.2)]
theorem msx {σ : mM} {a : Nat} {i j v : Int} : ms σ a i v a j = if j = i then v else σ a j := by
  unfold ms
  by_cases h : j = i
  · rw [if_pos ⟨rfl, h⟩, if_pos h]
  · rw [if_neg (fun q => h q.2), if_neg h]
theorem fr_ms {L : List Nat} {S : List Int} {σ : mM} {a : Nat} {i v : Int} (h : a ∈ L) (h9 : a ≠ 279) : fr L S σ (ms σ a i v) := ⟨fun b hb _ => msn (fun q => hb (q ▸ h)), fun j _ => congrFun (msn (fun q => h9 q.symm)) j⟩
theorem fr_mm {L : List Nat} {S : List Int} {σ : mM} {i v : Int} (h : i ∈ S) : fr L S σ (ms σ 279 i v) := ⟨fun b _ hb => msn hb, fun j hj => msi (fun q => hj (q ▸ h))⟩
theorem fr_w {L : List Nat} {S : List Int} {σ σ1 : mM} {a : Nat} {i v : Int} (h : fr L S σ σ1) (ha : a ∈ L) (h9 : a ≠ 279) : fr L S σ (ms σ1 a i v) := fr_t h (fr_ms ha h9)
theorem fr_wm {L : List Nat} {S : List Int} {σ σ1 : mM} {i v : Int} (h : fr L S σ σ1) (ha : i ∈ S) : fr L S σ (ms σ1 279 i v) := fr_t h (fr_mm ha)
theorem fr_cpy {L : List Nat} {S : List Int} {σ : mM} {a b : Nat} {i j n : Int} (h : b ∈ L) (h9 : b ≠ 279) : fr L S σ (cpyM σ a i b j n) := by
  refine ⟨fun c hc _ => ?_, fun q _ => ?_⟩
  · funext q
    unfold cpyM
    rw [if_neg]
    intro z
    exact hc (z.1 ▸ h)
  · unfold cpyM
    rw [if_neg]
    intro z
    exact h9 z.1.symm
def bI (p : Prop) [Decidable p] : Int := if p then 1 else 0
theorem bI_t {p : Prop} [Decidable p] (h : p) : bI p = 1 := if_pos h
theorem bI_f {p : Prop} [Decidable p] (h : ¬ p) : bI p = 0 := if_neg h
theorem bI_01 (p : Prop) [Decidable p] : bI p = 0 ∨ bI p = 1 := by unfold bI; split <;> simp
theorem bI_c {p q : Prop} [Decidable p] [Decidable q] (h : p ↔ q) : bI p = bI q := by
  by_cases hp : p
  · rw [bI_t hp, bI_t (h.mp hp)]
  · rw [bI_f hp, bI_f (fun z => hp (h.mpr z))]
theorem bI_z {p : Prop} [Decidable p] : bI p = 0 ↔ ¬ p := by unfold bI; split <;> simp_all
theorem bI_o {p : Prop} [Decidable p] : bI p = 1 ↔ p := by unfold bI; split <;> simp_all
theorem bo_of {v : Int} {P : Prop} (h : v = 0 ∨ v = 1) (p : P) : bo v P := by
  rcases h with rfl | rfl
  · exact p
  · exact p
theorem wtA {σ : mM} (hw : WT knS σ) {a n : Nat} (ha : 156 ≤ a) (hb : a < 372) (hk : (shp a).1 < 100) (hn : (shp a).2 = n + 1) {i : Int} (h0 : 0 ≤ i) (h1 : i < n) : zok1 σ (zak (shp a).1) (σ a i) := by
  have hs : σ 0 0 = 372 := hw.1 (by decide)
  have h := hw.2 a ha (by omega)
  unfold zokc at h
  have hb : Nat.blt (shp a).1 100 = true := by
    rw [Nat.blt_eq]
    exact hk
  rw [hb] at h
  have h2 := h i.toNat (by omega)
  rw [show Int.ofNat i.toNat = i by show ((i.toNat : Nat) : Int) = i; omega] at h2
  exact h2
theorem wtO {σ : mM} (hw : WT knS σ) {a n : Nat} (ha : 156 ≤ a) (hb : a < 372) (hk : ¬ (shp a).1 < 100) (hn : (shp a).2 = n + 1) {j : Nat} (h1 : j < n) : zok1 σ (zfk (zTy ((shp a).1 - 100) j)) (σ a (Int.ofNat j)) := by
  have hs : σ 0 0 = 372 := hw.1 (by decide)
  have h := hw.2 a ha (by omega)
  unfold zokc at h
  have hb : Nat.blt (shp a).1 100 = false := by
    cases q : Nat.blt (shp a).1 100 with
    | false => rfl
    | true => rw [Nat.blt_eq] at q; exact absurd q hk
  rw [hb] at h
  exact h j (by omega)
/-- the first place that fits -/
def isFst (P : Int → Prop) (n r : Int) : Prop := (r = -1 ∧ ∀ i, 0 ≤ i → i < n → ¬ P i) ∨ (0 ≤ r ∧ r < n ∧ P r ∧ ∀ i, 0 ≤ i → i < r → ¬ P i)
theorem isFst_u {P : Int → Prop} {n r r' : Int} (h : isFst P n r) (g : isFst P n r') : r = r' := by
  rcases h with ⟨h1, h2⟩ | ⟨h1, h2, h3, h4⟩ <;> rcases g with ⟨g1, g2⟩ | ⟨g1, g2, g3, g4⟩
  · rw [h1, g1]
  · exact absurd g3 (h2 _ g1 g2)
  · exact absurd h3 (g2 _ h1 h2)
  · rcases Int.lt_trichotomy r r' with q | q | q
    · exact absurd h3 (g4 _ h1 q)
    · exact q
    · exact absurd g3 (h4 _ g1 q)
theorem isFst_c {P P' : Int → Prop} {n r : Int} (hp : ∀ i, 0 ≤ i → i < n → (P i ↔ P' i)) (h : isFst P n r) : isFst P' n r := by
  rcases h with ⟨h1, h2⟩ | ⟨h1, h2, h3, h4⟩
  · exact Or.inl ⟨h1, fun i a b q => h2 i a b ((hp i a b).mpr q)⟩
  · exact Or.inr ⟨h1, h2, (hp r h1 h2).mp h3, fun i a b q => h4 i a b ((hp i a (by omega)).mpr q)⟩
theorem isFst_b {P : Int → Prop} {n r : Int} (h : isFst P n r) : -1 ≤ r ∧ (r < n ∨ r = -1) := by
  rcases h with ⟨h1, h2⟩ | ⟨h1, h2, h3, h4⟩ <;> omega
theorem isFst_some {P : Int → Prop} {n r : Int} (h : isFst P n r) (hr : r ≠ -1) : 0 ≤ r ∧ r < n ∧ P r := by
  rcases h with ⟨h1, h2⟩ | ⟨h1, h2, h3, h4⟩
  · exact absurd h1 hr
  · exact ⟨h1, h2, h3⟩
theorem isFst_none {P : Int → Prop} {n r : Int} (h : isFst P n r) (hr : r = -1) : ∀ i, 0 ≤ i → i < n → ¬ P i := by
  rcases h with ⟨h1, h2⟩ | ⟨h1, h2, h3, h4⟩
  · exact h2
  · omega
/-- a loop that looks for the first place that fits -/
theorem fst_loop {T : Int → mA → Prop} {P : Int → Prop} {n : Int} {σ : mM} (hr : ∀ (i : Int) (Q : mA), 0 ≤ i → (n ≤ i → Q (-1) σ) → (i < n → (P i → Q i σ) ∧ (¬ P i → T (i + 1) Q)) → T i Q) : ∃ r, isFst P n r ∧ ∀ Q : mA, Q r σ → T 0 Q := by
  have main : ∀ (k : Nat) (i : Int), 0 ≤ i → (n - i).toNat ≤ k → (∀ j, 0 ≤ j → j < i → ¬ P j) → ∃ r, isFst P n r ∧ ∀ Q : mA, Q r σ → T i Q := by
    intro k
    induction k with
    | zero =>
      intro i h0 hk hp
      exact ⟨-1, Or.inl ⟨rfl, fun j a b => hp j a (by omega)⟩, fun Q hQ => hr i Q h0 (fun _ => hQ) (fun q => by omega)⟩
    | succ k ih =>
      intro i h0 hk hp
      by_cases hn : n ≤ i
      · exact ⟨-1, Or.inl ⟨rfl, fun j a b => hp j a (by omega)⟩, fun Q hQ => hr i Q h0 (fun _ => hQ) (fun q => by omega)⟩
      · by_cases hP : P i
        · exact ⟨i, Or.inr ⟨h0, by omega, hP, hp⟩, fun Q hQ => hr i Q h0 (fun q => by omega) (fun _ => ⟨fun _ => hQ, fun q => absurd hP q⟩)⟩
        · obtain ⟨r, h1, h2⟩ := ih (i + 1) (by omega) (by omega) (fun j a b => by
            by_cases e : j = i
            · rw [e]; exact hP
            · exact hp j a (by omega))
          exact ⟨r, h1, fun Q hQ => hr i Q h0 (fun q => by omega) (fun _ => ⟨fun q => absurd q hP, fun _ => h2 Q hQ⟩)⟩
  exact main _ 0 (by omega) (Nat.le_refl _) (fun j a b => by omega)
/-- a loop that goes over all places and leaves a memory -/
theorem all_loop {T : Int → mM → mA → Prop} {n : Int} {r : Int} {I : Int → mM → Prop} {σ : mM} {i0 : Int} (hi : i0 ≤ n) (h0 : I i0 σ)
    (hr : ∀ (i : Int) (σ : mM), i0 ≤ i → i < n → I i σ → ∃ σ', I (i + 1) σ' ∧ ∀ Q : mA, T (i + 1) σ' Q → T i σ Q) (he : ∀ (σ : mM) (Q : mA), I n σ → Q r σ → T n σ Q) : ∃ σ', I n σ' ∧ ∀ Q : mA, Q r σ' → T i0 σ Q := by
  have main : ∀ (k : Nat) (i : Int) (σ : mM), i0 ≤ i → i ≤ n → (n - i).toNat = k → I i σ → ∃ σ', I n σ' ∧ ∀ Q : mA, Q r σ' → T i σ Q := by
    intro k
    induction k with
    | zero =>
      intro i σ h1 h2 hk hI
      have : i = n := by omega
      subst this
      exact ⟨σ, hI, fun Q hQ => he σ Q hI hQ⟩
    | succ k ih =>
      intro i σ h1 h2 hk hI
      obtain ⟨σ1, g1, g2⟩ := hr i σ h1 (by omega) hI
      obtain ⟨σ2, f1, f2⟩ := ih (i + 1) σ1 (by omega) (by omega) (by omega) g1
      exact ⟨σ2, f1, fun Q hQ => g2 Q (f2 Q hQ)⟩
  exact main _ i0 σ (Int.le_refl _) hi rfl h0
/-- names: bytes from the left (MarkHouse), from the right (MarkHouseModel) -/
def pkR : List Int → Int → Int
  | [], v => v
  | c :: l, v => pkR l (v * 256 + c)
def okB (l : List Int) : Prop := ∀ c ∈ l, 0 < c ∧ c < 128
def pw8 : Nat → Int
  | 0 => 1
  | n + 1 => 256 * pw8 n
/-- vx and vm are the same name -/
def nmR (vx vm : Int) : Prop := ∃ l : List Int, l.length ≤ 8 ∧ okB l ∧ vm = pkR l 0 ∧ vx = pkR l 0 * pw8 (8 - l.length)
theorem pkR_app (l : List Int) (c : Int) : ∀ v, pkR (l ++ [c]) v = pkR l v * 256 + c := by
  induction l with
  | nil => intro v; rfl
  | cons d l ih => intro v; exact ih _
theorem pkR_pos : ∀ (l : List Int) (v : Int), okB l → 0 ≤ v → v ≤ pkR l v ∧ (l ≠ [] → 0 < pkR l v)
  | [], v, _, h => ⟨Int.le_refl _, fun q => absurd rfl q⟩
  | c :: l, v, h, hv => by
    have hc := h c List.mem_cons_self
    have := pkR_pos l (v * 256 + c) (fun d hd => h d (List.mem_cons_of_mem _ hd)) (by omega)
    refine ⟨by show v ≤ pkR l (v * 256 + c); omega, fun _ => by show 0 < pkR l (v * 256 + c); omega⟩
theorem okB_l {l : List Int} {c : Int} (h : okB (l ++ [c])) : okB l ∧ 0 < c ∧ c < 128 := ⟨fun d hd => h d (List.mem_append_left _ hd), h c (List.mem_append_right _ List.mem_cons_self)⟩
theorem pkR_inj : ∀ (n : Nat) (l l' : List Int), l.length ≤ n → okB l → okB l' → pkR l 0 = pkR l' 0 → l = l' := by
  intro n
  induction n with
  | zero =>
    intro l l' hn h h' he
    have : l = [] := List.length_eq_zero_iff.mp (by omega)
    subst this
    cases l' with
    | nil => rfl
    | cons c l' =>
      have := (pkR_pos (c :: l') 0 h' (by omega)).2 (by simp)
      have e0 : pkR ([] : List Int) 0 = 0 := rfl
      omega
  | succ n ih =>
    intro l l' hn h h' he
    rcases List.eq_nil_or_concat l with rfl | ⟨a, c, rfl⟩
    · cases l' with
      | nil => rfl
      | cons c l' =>
        have := (pkR_pos (c :: l') 0 h' (by omega)).2 (by simp)
        have e0 : pkR ([] : List Int) 0 = 0 := rfl
        omega
    · rcases List.eq_nil_or_concat l' with rfl | ⟨a', c', rfl⟩
      · have := (pkR_pos _ 0 h (by omega)).2 (by simp)
        have e0 : pkR ([] : List Int) 0 = 0 := rfl
        omega
      · rw [List.concat_eq_append] at *
        rw [List.concat_eq_append] at *
        obtain ⟨h1, h2, h3⟩ := okB_l h
        obtain ⟨g1, g2, g3⟩ := okB_l h'
        rw [pkR_app, pkR_app] at he
        have e1 : c = c' := by omega
        have e2 : pkR a 0 = pkR a' 0 := by omega
        rw [ih a a' (by simp at hn; omega) h1 g1 e2, e1]
theorem pw8_pos : ∀ n, 0 < pw8 n
  | 0 => by decide
  | n + 1 => by have := pw8_pos n; show 0 < 256 * pw8 n; omega
theorem pw8_add : ∀ a b, pw8 (a + b) = pw8 a * pw8 b
  | 0, b => by simp [pw8]
  | a + 1, b => by
    rw [show a + 1 + b = (a + b) + 1 by omega]
    show 256 * pw8 (a + b) = 256 * pw8 a * pw8 b
    rw [pw8_add a b, Int.mul_assoc]
theorem pkL_lt {l l' : List Int} (h : okB l') (hl : l.length < l'.length) (h8 : l'.length ≤ 8) : pkR l 0 * pw8 (8 - l.length) ≠ pkR l' 0 * pw8 (8 - l'.length) := by
  intro he
  have e1 : 8 - l.length = (l'.length - l.length - 1 + 1) + (8 - l'.length) := by omega
  rw [e1, pw8_add, ← Int.mul_assoc] at he
  have hp := pw8_pos (8 - l'.length)
  have he2 := Int.eq_of_mul_eq_mul_right (by omega) he
  rcases List.eq_nil_or_concat l' with rfl | ⟨a, c, rfl⟩
  · simp at hl
  · rw [List.concat_eq_append] at *
    obtain ⟨h1, h2, h3⟩ := okB_l h
    rw [pkR_app] at he2
    have e3 : pw8 ((a ++ [c]).length - l.length - 1 + 1) = 256 * pw8 ((a ++ [c]).length - l.length - 1) := rfl
    rw [e3] at he2
    have e4 : pkR l 0 * (256 * pw8 ((a ++ [c]).length - l.length - 1)) = 256 * (pkR l 0 * pw8 ((a ++ [c]).length - l.length - 1)) := by
      rw [← Int.mul_assoc, Int.mul_comm (pkR l 0) 256, Int.mul_assoc]
    rw [e4] at he2
    omega
theorem nmR_iff {a b a' b' : Int} (h : nmR a b) (g : nmR a' b') : a = a' ↔ b = b' := by
  obtain ⟨l, h1, h2, rfl, rfl⟩ := h
  obtain ⟨l', g1, g2, rfl, rfl⟩ := g
  constructor
  · intro he
    rcases Nat.lt_trichotomy l.length l'.length with q | q | q
    · exact absurd he (pkL_lt g2 q g1)
    · rw [q] at he
      exact Int.eq_of_mul_eq_mul_right (by have := pw8_pos (8 - l'.length); omega) he
    · exact absurd he.symm (pkL_lt h2 q h1)
  · intro he
    rw [pkR_inj _ _ _ (Nat.le_refl _) h2 g2 he]
theorem nmR_0 : nmR 0 0 := ⟨[], by decide, (fun c h => by cases h), rfl, rfl⟩
theorem nmR_z {a b : Int} (h : nmR a b) : a = 0 ↔ b = 0 := nmR_iff h nmR_0
