/-! what is reached where fields are known beforehand is reached where nothing is -/
set_option maxRecDepth 100000
def kn0 : Nat → Nat → Option Int := fun _ _ => none
section KN
variable {kn : Nat → Nat → Option Int}
def knOK (kn : Nat → Nat → Option Int) (σ : mM) : Prop := (∀ (a p : Nat) (v : Int), kn a p = some v → σ a (Int.ofNat p) = v) ∧ σ 0 0 = 372
theorem blt155 {a : Nat} (h : Nat.blt 155 a = true) : a ≠ 0 := by
  rw [Nat.blt_eq] at h
  omega
theorem knOK_ms {σ : mM} {a : Nat} {i v : Int} (h : knOK kn σ) (ha : ∀ p, kn a p = none) (h0 : a ≠ 0 ∨ i ≠ 0) : knOK kn (ms σ a i v) := by
  refine ⟨?_, by unfold ms; rw [if_neg (by omega)]; exact h.2⟩
  intro b p w hb
  unfold ms
  split
  · rename_i q
    rw [q.1, ha] at hb
    cases hb
  · exact h.1 b p w hb
theorem knOK_cpy {σ : mM} {a b : Nat} {i j n : Int} (h : knOK kn σ) (ha : ∀ p, kn b p = none) (h0 : b ≠ 0) : knOK kn (cpyM σ a i b j n) := by
  refine ⟨?_, by unfold cpyM; rw [if_neg (by omega)]; exact h.2⟩
  intro c p w hb
  unfold cpyM
  split
  · rename_i q
    rw [q.1, ha] at hb
    cases hb
  · exact h.1 c p w hb
theorem rdk_kn {σ : mM} {a p : Nat} {F : Int → Prop} (hk : knOK kn σ) (h : rdk kn σ a p F) : F (σ a (Int.ofNat p)) := by
  unfold rdk at h
  split at h
  · rename_i v hv
    rw [hk.1 a p v hv]
    exact h
  · exact h
theorem wrf_kn {σ : mM} {a p : Nat} {v : Int} {K : mM → Prop} (hk : knOK kn σ) (h0 : a ≠ 0) (h : wrf kn σ a p v K) : knOK kn (ms σ a (Int.ofNat p) v) ∧ K (ms σ a (Int.ofNat p) v) := by
  unfold wrf at h
  split at h
  · rename_i w hw
    obtain ⟨rfl, h⟩ := h
    have : ms σ a (Int.ofNat p) v = σ := by
      funext b j
      unfold ms
      split
      · rename_i q
        rw [q.1, q.2]
        exact (hk.1 a p v hw).symm
      · rfl
    rw [this]
    exact ⟨hk, h⟩
  · rename_i hw
    refine ⟨⟨?_, by unfold ms; rw [if_neg (by omega)]; exact hk.2⟩, h⟩
    intro b q w hb
    unfold ms
    split
    · rename_i z
      obtain ⟨rfl, z2⟩ := z
      have : q = p := Int.ofNat.inj z2
      subst this
      rw [hw] at hb
      cases hb
    · exact hk.1 b q w hb
theorem chk_true {b : Bool} {P : Prop} (h : chk b P) : b = true ∧ P := by
  cases b
  · exact h.elim
  · exact ⟨rfl, h⟩
theorem chk_of {b : Bool} {P : Prop} (h : b = true) (p : P) : chk b P := by
  subst h
  exact p
abbrev zLk (kn : Nat → Nat → Option Int) (C C' : zC) : Prop := ∀ d n args σ (A A' : mA) (B B' : mB), knOK kn σ → (∀ b c, knOK kn c → A b c → A' b c) → (∀ b c, knOK kn c → B b c → B' b c) → C d n args σ A B → C' d n args σ A' B'
theorem zcall_kn {C C' : zC} {d y n : Nat} {args : List mV} {σ : mM} {A A' : mA} {B B' : mB} (hC : zLk kn C C') (hk : knOK kn σ) (hA : ∀ b c, knOK kn c → A b c → A' b c) (hB : ∀ b c, knOK kn c → B b c → B' b c) (h : zcall C d y n args σ A B) : zcall C' d y n args σ A' B' := by
  unfold zcall at h ⊢
  refine noN_mono (fun h => ?_) h
  split at h
  · exact hC _ _ _ _ _ _ _ _ hk hA hB h
  · split at h
    · split at h
      · exact h
      · exact hC _ _ _ _ _ _ _ _ hk hA hB h
    · exact h
theorem zthr_kn {y pc : Nat} {B B' : mB} {G G' : Nat → mM → Prop} (hB : ∀ b c, knOK kn c → B b c → B' b c) (g : ∀ t s, knOK kn s → G t s → G' t s) :
    ∀ (kd : Nat) (σ' : mM), knOK kn σ' → (match covB pc (hnd y) with
        | false => B kd σ'
        | true => match findH pc kd (hnd y) with
          | none => False
          | some h => G h σ') → (match covB pc (hnd y) with
        | false => B' kd σ'
        | true => match findH pc kd (hnd y) with
          | none => False
          | some h => G' h σ') := by
  intro kd σ' hk h
  split at h
  · exact hB _ _ hk h
  · split at h
    · exact h
    · exact g _ _ hk h
set_option maxHeartbeats 4000000 in
theorem sem_kn {C C' : zC} {d y pc : Nat} {i : Instr} {k : mC} {ls st : List mV} {σ : mM} {A A' : mA} {B B' : mB} {K K' : mC → List mV → List mV → mM → Prop} (hka : ∀ a p, (shp a).1 < 100 → kn a p = none) (hk00 : ∀ p, kn 0 p = none) (hnz : kn 156 0 ≠ none)
    (hC : zLk kn C C') (hk : knOK kn σ) (hK : ∀ k ls st σ, knOK kn σ → K k ls st σ → K' k ls st σ) (hA : ∀ b c, knOK kn c → A b c → A' b c) (hB : ∀ b c, knOK kn c → B b c → B' b c) (h : sem kn C d y pc i k ls st σ A B K) : sem kn0 C' d y pc i k ls st σ A' B' K' := by
  have nokf : ∀ {P Q : Prop}, nokn kn P → Q := fun {P Q} q => by
    unfold nokn at q
    split at q
    · rename_i z
      exact absurd z hnz
    · exact q.elim
  have arr : ∀ {a : Int} {kd : Nat}, shK a = kd → kd < 100 → ∀ p, kn a.toNat p = none := fun {a kd} q z p => hka _ p (by
    have : shK a = (shp a.toNat).1 := rfl
    omega)
  unfold sem at h ⊢
  cases i
  case invokestatic q =>
    dsimp only at h ⊢
    split at h
    · split at h
      · obtain ⟨hb, h⟩ := chk_true h
        have hb0 := hb
        simp only [Bool.and_eq_true, Bool.or_eq_true] at hb
        obtain ⟨⟨⟨hb, hb2⟩, hb3⟩, -⟩ := hb
        refine chk_of hb0 (noN_mono (fun q => ⟨q.1, hK _ _ _ _ (knOK_cpy hk ?_ (blt155 hb3)) q.2⟩) h)
        have e := Nat.eq_of_beq_eq_true hb
        refine arr rfl ?_
        rcases hb2 with z | z <;> (have := Nat.eq_of_beq_eq_true z; omega)
      · exact h
    · exact noN_mono (geN_mono (zcall_kn hC hk (fun _ _ z => hK _ _ _ _ z) (zthr_kn hB (fun _ _ z => hK _ _ _ _ z)))) h
  case invokespecial q =>
    dsimp only at h ⊢
    split at h
    · split at h
      · exact chk_mono (noN_mono (hK _ _ _ _ hk)) h
      · exact chk_mono (noN_mono (geN_mono (zcall_kn hC hk (fun _ _ z => hK _ _ _ _ z) (zthr_kn hB (fun _ _ z => hK _ _ _ _ z))))) h
    · exact h
  case invokevirtual q =>
    dsimp only at h ⊢
    split at h
    · exact chk_mono (noN_mono (geN_mono (zcall_kn hC hk (fun _ _ z => hK _ _ _ _ z) (zthr_kn hB (fun _ _ z => hK _ _ _ _ z))))) h
    · exact h
  case tableswitch df lo hi offs =>
    dsimp only at h ⊢
    split at h
    · exact ⟨fun q => hK _ _ _ _ hk (h.1 q), sw6_mono (fun _ => hK _ _ _ _ hk) _ _ h.2⟩
    · exact h
  case putfield q =>
    dsimp only at h ⊢
    split at h
    · obtain ⟨hb, h⟩ := chk_true h
      refine chk_of hb ?_
      rw [Bool.and_eq_true] at hb
      split at h
      · refine bo_mono (fun h => ?_) h
        obtain ⟨h1, h2⟩ := wrf_kn hk (blt155 hb.2) h
        exact hK _ _ _ _ h1 h2
      · obtain ⟨h1, h2⟩ := wrf_kn hk (blt155 hb.2) h
        exact hK _ _ _ _ h1 h2
    · exact h
  case getfield q =>
    dsimp only at h ⊢
    split at h
    · refine chk_mono (fun h => ?_) h
      exact hK _ _ _ _ hk (rdk_kn hk h)
    · exact h
  case iastore =>
    dsimp only at h ⊢
    split at h
    · obtain ⟨hb, h⟩ := chk_true h
      have hb0 := hb
      rw [Bool.and_eq_true] at hb
      refine chk_of hb0 ⟨h.1, hK _ _ _ _ (knOK_ms hk ?_ (Or.inl (blt155 hb.2))) h.2⟩
      exact arr (Nat.eq_of_beq_eq_true hb.1) (by decide)
    · exact h
  case lastore =>
    dsimp only at h ⊢
    split at h
    · obtain ⟨hb, h⟩ := chk_true h
      have hb0 := hb
      rw [Bool.and_eq_true] at hb
      refine chk_of hb0 ⟨h.1, hK _ _ _ _ (knOK_ms hk ?_ (Or.inl (blt155 hb.2))) h.2⟩
      exact arr (Nat.eq_of_beq_eq_true hb.1) (by decide)
    · exact h
  case aastore =>
    dsimp only at h ⊢
    split at h
    · obtain ⟨hb, h⟩ := chk_true h
      have hb0 := hb
      rw [Bool.and_eq_true, Bool.and_eq_true] at hb
      refine chk_of hb0 ⟨h.1, hK _ _ _ _ (knOK_ms hk ?_ (Or.inl (blt155 hb.2))) h.2⟩
      exact arr (Nat.eq_of_beq_eq_true hb.1.1) (by decide)
    · exact h
  case bastore =>
    dsimp only at h ⊢
    split at h
    · obtain ⟨hb, h⟩ := chk_true h
      refine chk_of hb ?_
      split at h
      · rename_i e
        exact ⟨h.1, hK _ _ _ _ (knOK_ms hk (arr e (by decide)) (Or.inl (blt155 hb))) h.2⟩
      · rename_i e
        exact bo_mono (fun h => ⟨h.1, hK _ _ _ _ (knOK_ms hk (arr e (by decide)) (Or.inl (blt155 hb))) h.2⟩) h
      · exact h
    · exact h
  case new c =>
    dsimp only at h ⊢
    split at h
    · exact nokf h
    · refine noN_mono (fun h => ?_) h
      refine ⟨h.1, ?_⟩
      have h2 := h.2
      split at h2
      · exact hB _ _ (knOK_ms (knOK_ms hk hk00 (Or.inr (by decide))) hk00 (Or.inr (by decide))) h2
      · exact h2
  case newarray t =>
    dsimp only at h ⊢
    split at h
    · exact nokf h
    · exact h
  case anewarray t =>
    dsimp only at h ⊢
    split at h
    · exact nokf h
    · exact h
  case multianewarray a b =>
    dsimp only at h ⊢
    split at h
    · exact nokf h
    · exact h
  case getstatic v =>
    dsimp only at h ⊢
    split at h
    · exact hK _ _ _ _ hk h
    · exact hK _ _ _ _ hk h
  case lcmp =>
    dsimp only at h ⊢
    split at h
    · split at h
      · exact br6_mono (hK _ _ _ _ hk) (hK _ _ _ _ hk) h
      · exact hK _ _ _ _ hk h
    · exact h
  case i2b =>
    dsimp only at h ⊢
    split at h
    · split at h
      · split at h
        · obtain ⟨hb, h⟩ := chk_true h
          have hb0 := hb
          rw [Bool.and_eq_true] at hb
          refine chk_of hb0 ⟨h.1, hK _ _ _ _ (knOK_ms hk ?_ (Or.inl (blt155 hb.2))) h.2⟩
          exact arr (Nat.eq_of_beq_eq_true hb.1) (by decide)
        · exact h
      · exact hK _ _ _ _ hk h
    · exact h
  case i2s =>
    dsimp only at h ⊢
    split at h
    · split at h
      · obtain ⟨hb, h⟩ := chk_true h
        have hb0 := hb
        rw [Bool.and_eq_true] at hb
        refine chk_of hb0 ⟨h.1, hK _ _ _ _ (knOK_ms hk ?_ (Or.inl (blt155 hb.2))) h.2⟩
        exact arr (Nat.eq_of_beq_eq_true hb.1) (by decide)
      · exact h
    · exact h
  all_goals dsimp only at h ⊢
  all_goals first
    | exact h
    | exact hA _ _ hk h
    | exact hK _ _ _ _ hk h
    | (split at h <;> first
        | exact h
        | exact hA _ _ hk h
        | exact ⟨h.1, hA _ _ hk h.2⟩
        | exact bo_mono (hA _ _ hk) h
        | exact hK _ _ _ _ hk h
        | exact chk_mono (hK _ _ _ _ hk) h
        | exact ⟨h.1, hK _ _ _ _ hk h.2⟩
        | exact chk_mono (fun h => ⟨h.1, hK _ _ _ _ hk h.2⟩) h
        | exact hasN_mono (fun h v e => hK _ _ _ _ hk (h v e)) h
        | exact hasN_mono (hK _ _ _ _ hk) h
        | exact nz_mono (hK _ _ _ _ hk) h
        | exact br6_mono (hK _ _ _ _ hk) (hK _ _ _ _ hk) h
        | skip)
theorem E_kn {d y : Nat} {k : mC} {ls st : List mV} {σ : mM} {A : mA} {B : mB} (hka : ∀ a p, (shp a).1 < 100 → kn a p = none) (hk00 : ∀ p, kn 0 p = none) (hnz : kn 156 0 ≠ none) (h : E kn d y k ls st σ A B) :
    knOK kn σ → E kn0 d y k ls st σ (fun r s => knOK kn s ∧ A r s) (fun r s => knOK kn s ∧ B r s) := by
  refine h (fun d y k ls st σ A B => knOK kn σ → E kn0 d y k ls st σ (fun r s => knOK kn s ∧ A r s) (fun r s => knOK kn s ∧ B r s)) ⟨?_, ?_, ?_⟩
  · intro d y k ls st σ A A' B B' f g h hk
    exact E_mono (h hk) (fun b c z => ⟨z.1, f _ _ z.2⟩) (fun b c z => ⟨z.1, g _ _ z.2⟩)
  · intro d y k ls ls' st σ A B f h hk
    exact E_forget f (h hk)
  · intro d y pc i k ls st σ A B hs h hk
    refine E_step hs (fun hw => sem_kn hka hk00 hnz ?_ hk ?_ ?_ ?_ (h ⟨fun _ => hk.2, hw.2⟩))
    · intro d n args σ A A' B B' hk fA fB h
      exact E_mono (h hk) (fun b c z => fA _ _ z.1 z.2) (fun b c z => fB _ _ z.1 z.2)
    · intro k ls st σ hk h
      exact h hk
    · exact fun b c z h => ⟨z, h⟩
    · exact fun b c z h => ⟨z, h⟩
end KN
