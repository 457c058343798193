/-! E: the least judgement closed under the rules of 'sem'; wpc: a run of rules up to given cuts -/
set_option maxRecDepth 100000
theorem chk_mono {b : Bool} {P P' : Prop} (f : P → P') (h : chk b P) : chk b P' := by
  cases b
  · exact h
  · exact f h
theorem hasN_mono {l : List mV} {n : Nat} {P P' : Prop} (f : P → P') (h : hasN l n P) : hasN l n P' := by
  unfold hasN at h ⊢
  split at h
  · exact h
  · exact f h
theorem noN_mono {l : List mV} {n : Nat} {P P' : Prop} (f : P → P') (h : noN l n P) : noN l n P' := by
  unfold noN at h ⊢
  split at h
  · exact f h
  · exact h
theorem geN_mono {l : List mV} {n : Nat} {P P' : Prop} (f : P → P') (h : geN l n P) : geN l n P' := by
  unfold geN at h ⊢
  split at h
  · exact f h
  · exact hasN_mono f h
theorem nokn_mono {kn : Nat → Nat → Option Int} {P P' : Prop} (f : P → P') (h : nokn kn P) : nokn kn P' := by
  unfold nokn at h ⊢
  split at h
  · exact f h
  · exact h
theorem rdk_mono {kn : Nat → Nat → Option Int} {σ : mM} {a p : Nat} {F F' : Int → Prop} (f : ∀ v, F v → F' v) (h : rdk kn σ a p F) : rdk kn σ a p F' := by
  unfold rdk at h ⊢
  split at h
  · exact f _ h
  · exact f _ h
theorem bo_mono {v : Int} {P P' : Prop} (f : P → P') (h : bo v P) : bo v P' := by
  unfold bo at h ⊢
  split at h
  · exact f h
  · exact f h
  · exact ⟨h.1, f h.2⟩
theorem nz_mono {v : Int} {P P' : Prop} (f : P → P') (h : nz v P) : nz v P' := by
  unfold nz at h ⊢
  split at h
  · exact f h
  · exact ⟨h.1, f h.2⟩
theorem br6_mono {c : Jvm.ClassFile.Cond} {a b : Int} {J F J' F' : Prop} (f : J → J') (g : F → F') (h : br6 c a b J F) : br6 c a b J' F' := by
  cases c
  · exact ⟨fun q => f (h.1 q), fun q => g (h.2 q)⟩
  · exact ⟨fun q => g (h.1 q), fun q => f (h.2 q)⟩
  · exact ⟨fun q => f (h.1 q), fun q => g (h.2 q)⟩
  · exact ⟨fun q => f (h.1 q), fun q => g (h.2 q)⟩
  · exact ⟨fun q => f (h.1 q), fun q => g (h.2 q)⟩
  · exact ⟨fun q => f (h.1 q), fun q => g (h.2 q)⟩
theorem sw6_mono {z : Int} {J J' : Int → Prop} (f : ∀ t, J t → J' t) : ∀ (ts : List Int) (lo : Int), sw6 z J lo ts → sw6 z J' lo ts
  | [], _, _ => trivial
  | _ :: ts, _, h => ⟨fun q => f _ (h.1 q), sw6_mono f ts _ h.2⟩
theorem wrf_mono {kn : Nat → Nat → Option Int} {σ : mM} {a p : Nat} {v : Int} {K K' : mM → Prop} (f : ∀ s, K s → K' s) (h : wrf kn σ a p v K) : wrf kn σ a p v K' := by
  unfold wrf at h ⊢
  split at h
  · exact ⟨h.1, f _ h.2⟩
  · exact f _ h
theorem spend_mono {σ : mM} {c n : Int} {K K' : mM → Prop} (f : ∀ s, K s → K' s) (h : spend σ c n K) : spend σ c n K' := ⟨h.1, f _ h.2⟩
theorem born_mono {σ : mM} {kd : Nat} {ln : Int} {K K' : Int → mM → Prop} (f : ∀ a s, K a s → K' a s) (h : born σ kd ln K) : born σ kd ln K' :=
  chk_mono (fun q => ⟨q.1, spend_mono (fun _ => f _ _) q.2⟩) h
abbrev zC : Type := Nat → Nat → List mV → mM → mA → mB → Prop
abbrev zLe (C C' : zC) : Prop := ∀ d n args σ (A A' : mA) (B B' : mB), (∀ b c, A b c → A' b c) → (∀ b c, B b c → B' b c) → C d n args σ A B → C' d n args σ A' B'
theorem zcall_mono {C C' : zC} {d y n : Nat} {args : List mV} {σ : mM} {A A' : mA} {B B' : mB} (hC : zLe C C') (hA : ∀ b c, A b c → A' b c) (hB : ∀ b c, B b c → B' b c) (h : zcall C d y n args σ A B) : zcall C' d y n args σ A' B' := by
  unfold zcall at h ⊢
  refine noN_mono (fun h => ?_) h
  split at h
  · exact hC _ _ _ _ _ _ _ _ hA hB h
  · split at h
    · split at h
      · exact h
      · exact hC _ _ _ _ _ _ _ _ hA hB h
    · exact h
theorem zthr_mono {y pc : Nat} {B : mB} {G G' : Nat → mM → Prop} (g : ∀ t s, G t s → G' t s) :
    ∀ (kd : Nat) (σ' : mM), (match covB pc (hnd y) with
        | false => B kd σ'
        | true => match findH pc kd (hnd y) with
          | none => False
          | some h => G h σ') → (match covB pc (hnd y) with
        | false => B kd σ'
        | true => match findH pc kd (hnd y) with
          | none => False
          | some h => G' h σ') := by
  intro kd σ' h
  split at h
  · exact h
  · split at h
    · exact h
    · exact g _ _ h
theorem dropW_suf : ∀ (l : mC) (t : Nat), dropW t l <:+ l
  | [], _ => List.suffix_refl _
  | a :: l, t => by
    unfold dropW
    split
    · exact List.suffix_refl _
    · exact (dropW_suf l t).trans (List.suffix_cons _ _)
theorem jmp_suf (y : Nat) (t : Int) : jmp y t <:+ cd y := dropW_suf _ _
set_option maxHeartbeats 4000000 in
theorem sem_mono {kn : Nat → Nat → Option Int} {C C' : zC} {d y pc : Nat} {i : Instr} {k : mC} {ls st : List mV} {σ : mM} {A : mA} {B : mB} {K K' : mC → List mV → List mV → mM → Prop}
    (hC : zLe C C') (hs : (pc, i) :: k <:+ cd y) (hK : ∀ k ls st σ, k <:+ cd y → K k ls st σ → K' k ls st σ) (h : sem kn C d y pc i k ls st σ A B K) : sem kn C' d y pc i k ls st σ A B K' := by
  have hk : k <:+ cd y := (List.suffix_cons _ _).trans hs
  clear hs
  unfold sem at h ⊢
  cases i
  case invokestatic q =>
    dsimp only at h ⊢
    split at h
    · split at h
      · exact chk_mono (noN_mono (fun q => ⟨q.1, hK _ _ _ _ hk q.2⟩)) h
      · exact h
    · exact noN_mono (geN_mono (zcall_mono hC (fun _ _ => hK _ _ _ _ hk) (zthr_mono (fun _ _ => hK _ _ _ _ (jmp_suf _ _))))) h
  case invokespecial q =>
    dsimp only at h ⊢
    split at h
    · split at h
      · exact chk_mono (noN_mono (hK _ _ _ _ hk)) h
      · exact chk_mono (noN_mono (geN_mono (zcall_mono hC (fun _ _ => hK _ _ _ _ hk) (zthr_mono (fun _ _ => hK _ _ _ _ (jmp_suf _ _)))))) h
    · exact h
  case invokevirtual q =>
    dsimp only at h ⊢
    split at h
    · exact chk_mono (noN_mono (geN_mono (zcall_mono hC (fun _ _ => hK _ _ _ _ hk) (zthr_mono (fun _ _ => hK _ _ _ _ (jmp_suf _ _)))))) h
    · exact h
  case tableswitch df lo hi offs =>
    dsimp only at h ⊢
    split at h
    · exact ⟨fun q => hK _ _ _ _ (jmp_suf _ _) (h.1 q), sw6_mono (fun _ => hK _ _ _ _ (jmp_suf _ _)) _ _ h.2⟩
    · exact h
  case putfield q =>
    dsimp only at h ⊢
    split at h
    · refine chk_mono (fun h => ?_) h
      split at h
      · exact bo_mono (wrf_mono (fun _ => hK _ _ _ _ hk)) h
      · exact wrf_mono (fun _ => hK _ _ _ _ hk) h
    · exact h
  case bastore =>
    dsimp only at h ⊢
    split at h
    · refine chk_mono (fun h => ?_) h
      split at h
      · exact ⟨h.1, hK _ _ _ _ (by first | exact hk | exact jmp_suf _ _ | exact (List.suffix_cons _ _).trans hk) h.2⟩
      · exact bo_mono (fun h => ⟨h.1, hK _ _ _ _ (by first | exact hk | exact jmp_suf _ _ | exact (List.suffix_cons _ _).trans hk) h.2⟩) h
      · exact h
    · exact h
  case new c =>
    dsimp only at h ⊢
    split at h
    · exact nokn_mono (born_mono (fun _ _ => hK _ _ _ _ hk)) h
    · exact h
  case getfield q =>
    dsimp only at h ⊢
    split at h
    · exact chk_mono (rdk_mono (fun _ => hK _ _ _ _ hk)) h
    · exact h
  case multianewarray a b =>
    dsimp only at h ⊢
    split at h
    · exact nokn_mono (fun h => ⟨h.1, born_mono (fun _ _ => born_mono (fun _ _ => born_mono (fun _ _ => born_mono (fun _ _ => born_mono (fun _ _ => hK _ _ _ _ hk))))) h.2⟩) h
    · exact h
  case getstatic v =>
    dsimp only at h ⊢
    split at h
    · exact hK _ _ _ _ (by first | exact hk | exact jmp_suf _ _ | exact (List.suffix_cons _ _).trans hk) h
    · exact hK _ _ _ _ (by first | exact hk | exact jmp_suf _ _ | exact (List.suffix_cons _ _).trans hk) h
  case lcmp =>
    dsimp only at h ⊢
    split at h
    · split at h
      · exact br6_mono (hK _ _ _ _ (jmp_suf _ _)) (hK _ _ _ _ (by first | exact hk | exact jmp_suf _ _ | exact (List.suffix_cons _ _).trans hk)) h
      · exact hK _ _ _ _ (by first | exact hk | exact jmp_suf _ _ | exact (List.suffix_cons _ _).trans hk) h
    · exact h
  case i2b =>
    dsimp only at h ⊢
    split at h
    · split at h
      · split at h
        · exact chk_mono (fun h => ⟨h.1, hK _ _ _ _ (by first | exact hk | exact jmp_suf _ _ | exact (List.suffix_cons _ _).trans hk) h.2⟩) h
        · exact h
      · exact hK _ _ _ _ (by first | exact hk | exact jmp_suf _ _ | exact (List.suffix_cons _ _).trans hk) h
    · exact h
  case i2s =>
    dsimp only at h ⊢
    split at h
    · split at h
      · exact chk_mono (fun h => ⟨h.1, hK _ _ _ _ (by first | exact hk | exact jmp_suf _ _ | exact (List.suffix_cons _ _).trans hk) h.2⟩) h
      · exact h
    · exact h
  all_goals dsimp only at h ⊢
  all_goals first
    | exact h
    | exact hK _ _ _ _ (by first | exact hk | exact jmp_suf _ _ | exact (List.suffix_cons _ _).trans hk) h
    | (split at h <;> first
        | exact h
        | exact hK _ _ _ _ (by first | exact hk | exact jmp_suf _ _ | exact (List.suffix_cons _ _).trans hk) h
        | exact chk_mono (hK _ _ _ _ hk) h
        | exact ⟨h.1, hK _ _ _ _ (by first | exact hk | exact jmp_suf _ _ | exact (List.suffix_cons _ _).trans hk) h.2⟩
        | exact chk_mono (fun h => ⟨h.1, hK _ _ _ _ (by first | exact hk | exact jmp_suf _ _ | exact (List.suffix_cons _ _).trans hk) h.2⟩) h
        | exact hasN_mono (fun h v e => hK _ _ _ _ hk (h v e)) h
        | exact hasN_mono (hK _ _ _ _ hk) h
        | exact nz_mono (hK _ _ _ _ hk) h
        | exact br6_mono (hK _ _ _ _ (jmp_suf _ _)) (hK _ _ _ _ (by first | exact hk | exact jmp_suf _ _ | exact (List.suffix_cons _ _).trans hk)) h
        | exact nokn_mono (born_mono (fun _ _ => hK _ _ _ _ hk)) h
        | skip)
