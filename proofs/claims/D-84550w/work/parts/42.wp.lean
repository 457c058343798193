set_option maxRecDepth 100000
def leL (a b : List mV) : Prop := a.length = b.length ∧ ∀ (i : Nat) (v : mV), a[i]? = some v → v.1 ≠ 3 → b[i]? = some v
abbrev zP : Type := Nat → Nat → mC → List mV → List mV → mM → mA → mB → Prop
def zcal (P : zP) : zC := fun d n args σ A B => P d n (jmp n 0) (entL n args) [] σ A B
def zcl (kn : Nat → Nat → Option Int) (P : zP) : Prop :=
  (∀ d y k ls st σ (A A' : mA) (B B' : mB), (∀ b c, A b c → A' b c) → (∀ b c, B b c → B' b c) → P d y k ls st σ A B → P d y k ls st σ A' B') ∧
  (∀ d y k ls ls' st σ A B, leL ls ls' → P d y k ls st σ A B → P d y k ls' st σ A B) ∧
  (∀ d y pc i k ls st σ A B, (pc, i) :: k <:+ cd y → (WT kn σ → sem kn (zcal P) d y pc i k ls st σ A B (fun k ls st σ => P d y k ls st σ A B)) → P d y ((pc, i) :: k) ls st σ A B)
def E (kn : Nat → Nat → Option Int) (d y : Nat) (k : mC) (ls st : List mV) (σ : mM) (A : mA) (B : mB) : Prop := ∀ P : zP, zcl kn P → P d y k ls st σ A B
theorem E_mono {kn : Nat → Nat → Option Int} {d y : Nat} {k : mC} {ls st : List mV} {σ : mM} {A A' : mA} {B B' : mB} (h : E kn d y k ls st σ A B) (f : ∀ b c, A b c → A' b c) (g : ∀ b c, B b c → B' b c) : E kn d y k ls st σ A' B' :=
  fun P hP => hP.1 _ _ _ _ _ _ _ _ _ _ f g (h P hP)
theorem E_forget {kn : Nat → Nat → Option Int} {d y : Nat} {k : mC} {ls ls' st : List mV} {σ : mM} {A : mA} {B : mB} (f : leL ls ls') (h : E kn d y k ls st σ A B) : E kn d y k ls' st σ A B :=
  fun P hP => hP.2.1 _ _ _ _ _ _ _ _ _ f (h P hP)
theorem E_step {kn : Nat → Nat → Option Int} {d y pc : Nat} {i : Instr} {k : mC} {ls st : List mV} {σ : mM} {A : mA} {B : mB} (hs : (pc, i) :: k <:+ cd y)
    (h : WT kn σ → sem kn (zcal (E kn)) d y pc i k ls st σ A B (fun k ls st σ => E kn d y k ls st σ A B)) : E kn d y ((pc, i) :: k) ls st σ A B := by
  intro P hP
  refine hP.2.2 _ _ _ _ _ _ _ _ _ _ hs (fun hw => sem_mono ?_ hs (fun _ _ _ _ _ q => q P hP) (h hw))
  intro d n args σ A A' B B' f g q
  exact hP.1 _ _ _ _ _ _ _ _ _ _ f g (q P hP)
def zb (Z : mM → Prop) : mB := fun kd σ => match kd with
  | 1 => Z σ
  | _ => False
def zno : mM → Prop := fun _ => False
def E1 (kn : Nat → Nat → Option Int) (d y : Nat) (k : mC) (ls st : List mV) (σ : mM) (Q : mA) (Z : mM → Prop) : Prop := E kn d y k ls st σ Q (zb Z)
theorem E1_mono {kn : Nat → Nat → Option Int} {d y : Nat} {k : mC} {ls st : List mV} {σ : mM} {A A' : mA} {Z Z' : mM → Prop} (h : E1 kn d y k ls st σ A Z) (f : ∀ b c, A b c → A' b c) (g : ∀ c, Z c → Z' c) : E1 kn d y k ls st σ A' Z' := by
  refine E_mono h f ?_
  intro b c h
  unfold zb at h ⊢
  split at h
  · exact g _ h
  · exact h
def zcE (kn : Nat → Nat → Option Int) : zC := fun d n args σ A B => match thr n with
  | 1 => E1 kn d n (jmp n 0) (entL n args) [] σ A (fun s => B 1 s)
  | _ => E1 kn d n (jmp n 0) (entL n args) [] σ A zno
theorem zcE_le (kn : Nat → Nat → Option Int) : zLe (zcE kn) (zcal (E kn)) := by
  intro d n args σ A A' B B' f g h
  unfold zcE at h
  unfold zcal
  split at h
  · refine E_mono h f ?_
    intro b c h
    unfold zb at h
    split at h
    · exact g _ _ h
    · exact h.elim
  · refine E_mono h f ?_
    intro b c h
    unfold zb zno at h
    split at h <;> exact h.elim
def cutOf (p : Nat) : List (Nat × List Nat) → Option (List Nat)
  | [] => none
  | (q, l) :: r => match Nat.beq p q with
    | true => some l
    | false => cutOf p r
def memN (n : Nat) : List Nat → Bool
  | [] => false
  | m :: r => Nat.beq n m || memN n r
def maskL (live : List Nat) : Nat → List mV → List mV
  | _, [] => []
  | i, v :: r => (match memN i live with
    | true => v
    | false => (3, 0)) :: maskL live (i + 1) r
theorem maskL_le (live : List Nat) : ∀ (ls : List mV) (i : Nat), leL (maskL live i ls) ls
  | [], _ => ⟨rfl, fun _ _ h _ => h⟩
  | v :: r, i => by
    obtain ⟨h1, h2⟩ := maskL_le live r (i + 1)
    refine ⟨by simp [maskL, h1], fun j w hj hw => ?_⟩
    cases j with
    | zero =>
      simp only [maskL, List.getElem?_cons_zero, Option.some.injEq] at hj ⊢
      split at hj
      · exact hj
      · subst hj; exact absurd rfl hw
    | succ j =>
      simp only [maskL, List.getElem?_cons_succ] at hj ⊢
      exact h2 j w hj hw
def incB : mC → Bool
  | [] => true
  | q :: k => (match k with
    | [] => true
    | r :: _ => Nat.blt q.1 r.1) && incB k
theorem incB_lt : ∀ (k : mC) (q : Nat × Instr), incB (q :: k) = true → ∀ r ∈ k, q.1 < r.1
  | [], _, _, r, hr => by cases hr
  | a :: k, q, h, r, hr => by
    simp only [incB, Bool.and_eq_true] at h
    have h1 : q.1 < a.1 := Nat.le_of_ble_eq_true h.1
    have h2 : incB (a :: k) = true := by simp only [incB, Bool.and_eq_true]; exact h.2
    rcases List.mem_cons.mp hr with rfl | hr
    · exact h1
    · exact Nat.lt_trans h1 (incB_lt k a h2 r hr)
theorem dropW_sfx : ∀ (l : mC) (p : Nat) (i : Instr) (k : mC), incB l = true → (p, i) :: k <:+ l → dropW p l = (p, i) :: k
  | [], p, i, k, _, h => by simp at h
  | a :: l, p, i, k, hi, h => by
    rcases List.suffix_cons_iff.mp h with h | h
    · cases h
      simp [dropW]
    · have hl : incB l = true := by
        simp only [incB, Bool.and_eq_true] at hi
        exact hi.2
      have hm : (p, i) ∈ l := h.subset List.mem_cons_self
      have hlt := incB_lt l a hi _ hm
      have hb : Nat.beq a.1 p = false := by
        cases hq : Nat.beq a.1 p with
        | false => rfl
        | true => exact absurd (Nat.eq_of_beq_eq_true hq) (Nat.ne_of_lt hlt)
      simp only [dropW, hb]
      exact dropW_sfx l p i k hl h
theorem cdT_inc : cdT.all (fun l => l.all incB) = true := by decide +kernel
theorem cd_inc (y : Nat) : incB (cd y) = true := by
  have h := cdT_inc
  rw [List.all_eq_true] at h
  unfold cd
  rw [List.getD_eq_getElem?_getD]
  cases h1 : (cdT.getD (y / 32) [])[y % 32]? with
  | none => rfl
  | some c =>
    have hc := List.mem_of_getElem? h1
    rw [List.getD_eq_getElem?_getD] at hc
    cases h2 : cdT[y / 32]? with
    | none => rw [h2] at hc; simp at hc
    | some l =>
      rw [h2] at hc
      have h3 := h l (List.mem_of_getElem? h2)
      rw [List.all_eq_true] at h3
      exact h3 c hc
theorem jmp_sfx {y p : Nat} {i : Instr} {k : mC} (h : (p, i) :: k <:+ cd y) : jmp y (Int.ofNat p) = (p, i) :: k := dropW_sfx _ _ _ _ (cd_inc y) h
def wgo (kn : Nat → Nat → Option Int) (d y : Nat) (cuts : List (Nat × List Nat)) (Q : mA) (B : mB) (go : mC → List mV → List mV → mM → Prop) (k : mC) (ls st : List mV) (σ : mM) : Prop := match k with
  | [] => False
  | q :: k' => match cutOf q.1 cuts with
    | some l => E kn d y (jmp y (Int.ofNat q.1)) (maskL l 0 ls) st σ Q B
    | none => go (q :: k') ls st σ
def wpc (kn : Nat → Nat → Option Int) (d y : Nat) (cuts : List (Nat × List Nat)) (Q : mA) (B : mB) : Nat → mC → List mV → List mV → mM → Prop
  | 0, _, _, _, _ => False
  | n + 1, k, ls, st, σ => match k with
    | [] => False
    | q :: k' => sem kn (zcE kn) d y q.1 q.2 k' ls st σ Q B (wgo kn d y cuts Q B (wpc kn d y cuts Q B n))
theorem wpc_sound {kn : Nat → Nat → Option Int} {d y : Nat} {cuts : List (Nat × List Nat)} {Q : mA} {B : mB} : ∀ (n : Nat) (k : mC) (ls st : List mV) (σ : mM), k <:+ cd y → wpc kn d y cuts Q B n k ls st σ → E kn d y k ls st σ Q B
  | 0, _, _, _, _, _, h => h.elim
  | n + 1, [], _, _, _, _, h => h.elim
  | n + 1, (p, i) :: k, ls, st, σ, hs, h => by
    refine E_step hs (fun _ => sem_mono (zcE_le kn) hs ?_ h)
    intro k ls st σ hk h
    match k, hk, h with
    | (p, i) :: k, hk, h =>
      unfold wgo at h
      dsimp only at h
      split at h
      · rw [jmp_sfx hk] at h
        exact E_forget (maskL_le _ _ _) h
      · exact wpc_sound n _ _ _ _ hk h
theorem wpc_soundW {kn : Nat → Nat → Option Int} {d y : Nat} {cuts : List (Nat × List Nat)} {Q : mA} {B : mB} : ∀ (n : Nat) (k : mC) (ls st : List mV) (σ : mM), k <:+ cd y → wpc kn d y cuts Q B n k ls st σ ∨ ¬ WT kn σ → k ≠ [] → E kn d y k ls st σ Q B := by
  intro n k ls st σ hs h hne
  rcases h with h | h
  · exact wpc_sound n k ls st σ hs h
  · match k, hs, hne with
    | (p, i) :: k, hs, _ => exact E_step hs (fun hw => absurd hw h)
    | [], _, hne => exact absurd rfl hne
theorem jmp_ne {kn : Nat → Nat → Option Int} {d y : Nat} {cuts : List (Nat × List Nat)} {Q : mA} {B : mB} {n : Nat} {k : mC} {ls st : List mV} {σ : mM} (h : WT kn σ → wpc kn d y cuts Q B n k ls st σ) (hne : k ≠ []) (hs : k <:+ cd y) : E kn d y k ls st σ Q B := by
  by_cases hw : WT kn σ
  · exact wpc_soundW (cuts := cuts) n k ls st σ hs (Or.inl (h hw)) hne
  · exact wpc_soundW (cuts := cuts) n k ls st σ hs (Or.inr hw) hne
def neB (k : mC) : Bool := match k with
  | [] => false
  | _ => true
theorem neB_ok {k : mC} (h : neB k = true) : k ≠ [] := by
  intro e
  subst e
  cases h
theorem wpc_runE {kn : Nat → Nat → Option Int} {d y : Nat} {t : Int} {ls st : List mV} {σ : mM} {Q : mA} {B : mB} (cuts : List (Nat × List Nat)) (n : Nat) (hn : neB (jmp y t) = true) (h : WT kn σ → wpc kn d y cuts Q B n (jmp y t) ls st σ) : E kn d y (jmp y t) ls st σ Q B :=
  jmp_ne h (neB_ok hn) (jmp_suf _ _)
theorem wpc_run {kn : Nat → Nat → Option Int} {d y : Nat} {t : Int} {ls st : List mV} {σ : mM} {Q : mA} {Z : mM → Prop} (cuts : List (Nat × List Nat)) (n : Nat) (hn : neB (jmp y t) = true) (h : WT kn σ → wpc kn d y cuts Q (zb Z) n (jmp y t) ls st σ) : E1 kn d y (jmp y t) ls st σ Q Z :=
  jmp_ne h (neB_ok hn) (jmp_suf _ _)
