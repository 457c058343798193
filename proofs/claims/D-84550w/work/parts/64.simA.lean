/-! THE SIMULATION: how the mini memory lies in the real heap -/
set_option maxRecDepth 100000
set_option maxHeartbeats 4000000
def zi32 (σ : mM) (a : Nat) : Nat → Int32 := fun j => Int32.ofInt (σ a (Int.ofNat j))
def zi64 (σ : mM) (a : Nat) : Nat → Int64 := fun j => Int64.ofInt (σ a (Int.ofNat j))
def zrf (ad : Nat → Nat) (σ : mM) (a : Nat) : Nat → Option Nat := fun j => if σ a (Int.ofNat j) = 0 then none else some (ad (σ a (Int.ofNat j)).toNat)
def zfv (ad : Nat → Nat) (k : Nat) (z : Int) : Value := match k with
  | 1 => .long (Int64.ofInt z)
  | 2 => if z = 0 then .null else .ref (ad z.toNat)
  | _ => .int (Int32.ofInt z)
def zfs (ad : Nat → Nat) (σ : mM) (a ci n : Nat) : List Value := (List.range n).map (fun j => zfv ad (zfk (zTy ci j)) (σ a (Int.ofNat j)))
def zE (tc : Nat → ClassId) (ad : Nat → Nat) (σ : mM) (a : Nat) : va_E := match (shp a).1 with
  | 0 => .inl (tc 1, 0, .inl (zi32 σ a))
  | 1 => .inl (tc 1, (shp a).2 - 1, .inl (zi32 σ a))
  | 2 => .inl (tc 2, (shp a).2 - 1, .inr (.inl (zi64 σ a)))
  | 3 => .inl (tc 3, (shp a).2 - 1, .inl (zi32 σ a))
  | 4 => .inl (tc 4, (shp a).2 - 1, .inl (zi32 σ a))
  | 5 => .inl (tc 5, (shp a).2 - 1, .inr (.inr (.inr (.inr (zrf ad σ a)))))
  | 6 => .inl (tc 6, (shp a).2 - 1, .inr (.inr (.inr (.inr (zrf ad σ a)))))
  | k => .inr (k - 100, zfs ad σ a (k - 100) ((shp a).2 - 1))
/-- the cells that are born: from 156 on -/
def zW (tc : Nat → ClassId) (ad : Nat → Nat) (σ : mM) (n : Nat) : va_W := (List.range n).map (fun i => (ad (156 + i), zE tc ad σ (156 + i)))
def zval (ad : Nat → Nat) (σ : mM) (v : mV) (w : Value) : Prop := match v with
  | (0, z) => ∃ x : Int32, w = .int x ∧ x.toInt = z
  | (1, z) => ∃ x : Int64, w = .long x ∧ x.toInt = z
  | (2, z) => (z = 0 ∧ w = .null) ∨ (zvd σ z ∧ w = .ref (ad z.toNat))
  | (4, _) => w = .null ∨ ∃ a, w = .ref a
  | _ => False
def zst (ad : Nat → Nat) (σ : mM) : List mV → List Value → Prop
  | [], [] => True
  | v :: r, w :: q => zval ad σ v w ∧ zst ad σ r q
  | _, _ => False
def zloc (ad : Nat → Nat) (σ : mM) (ls : List mV) (lsR : Array Slot) : Prop :=
  lsR.size = ls.length ∧ lv_wf lsR ∧ ∀ (i : Nat) (v : mV), ls[i]? = some v → v.1 ≠ 3 → ∃ w, zval ad σ v w ∧ lsR[i]? = some (.val w)
theorem i32_ok (x : Int32) : ok32 x.toInt := by
  have h1 := Int32.le_toInt x
  have h2 := Int32.toInt_lt x
  unfold ok32
  omega
theorem i64_ok (x : Int64) : ok64 x.toInt := by
  have h1 := Int64.le_toInt x
  have h2 := Int64.toInt_lt x
  unfold ok64
  omega
theorem i32_to {z : Int} (h : ok32 z) : (Int32.ofInt z).toInt = z := by
  unfold ok32 at h
  exact Int32.toInt_ofInt_of_le (by omega) (by omega)
theorem i64_to {z : Int} (h : ok64 z) : (Int64.ofInt z).toInt = z := by
  unfold ok64 at h
  exact Int64.toInt_ofInt_of_le (by omega) (by omega)
theorem i32_of (x : Int32) : Int32.ofInt x.toInt = x := Int32.ofInt_toInt x
theorem i64_of (x : Int64) : Int64.ofInt x.toInt = x := Int64.ofInt_toInt x
theorem zval_up {ad ad' : Nat → Nat} {σ σ' : mM} (h0 : σ 0 0 ≤ σ' 0 0) (ha : ∀ a : Nat, (a : Int) < σ 0 0 → ad' a = ad a) : ∀ {v : mV} {w : Value}, zval ad σ v w → zval ad' σ' v w
  | (0, _), _, h => h
  | (1, _), _, h => h
  | (2, z), _, h => by
    rcases h with h | ⟨⟨h1, h2⟩, h3⟩
    · exact Or.inl h
    · refine Or.inr ⟨⟨h1, by omega⟩, ?_⟩
      rw [ha z.toNat (by omega)]
      exact h3
  | (3, _), _, h => h.elim
  | (4, _), _, h => h
  | (_ + 5, _), _, h => h.elim
theorem zst_up {ad ad' : Nat → Nat} {σ σ' : mM} (h0 : σ 0 0 ≤ σ' 0 0) (ha : ∀ a : Nat, (a : Int) < σ 0 0 → ad' a = ad a) : ∀ {st : List mV} {r : List Value}, zst ad σ st r → zst ad' σ' st r
  | [], [], _ => trivial
  | v :: st, w :: r, h => ⟨zval_up h0 ha h.1, zst_up h0 ha h.2⟩
  | [], _ :: _, h => h.elim
  | _ :: _, [], h => h.elim
theorem zloc_up {ad ad' : Nat → Nat} {σ σ' : mM} (h0 : σ 0 0 ≤ σ' 0 0) (ha : ∀ a : Nat, (a : Int) < σ 0 0 → ad' a = ad a) {ls : List mV} {r : Array Slot} (h : zloc ad σ ls r) : zloc ad' σ' ls r :=
  ⟨h.1, h.2.1, fun i v hi hv => by
    obtain ⟨w, hw, hr⟩ := h.2.2 i v hi hv
    exact ⟨w, zval_up h0 ha hw, hr⟩⟩
theorem zcat {ad : Nat → Nat} {σ : mM} : ∀ {v : mV} {w : Value}, zval ad σ v w → (w.category = 2 ↔ v.1 = 1)
  | (0, _), _, h => by obtain ⟨x, rfl, -⟩ := h; simp [Value.category]
  | (1, _), _, h => by obtain ⟨x, rfl, -⟩ := h; simp [Value.category]
  | (2, _), _, h => by rcases h with ⟨-, rfl⟩ | ⟨-, rfl⟩ <;> simp [Value.category]
  | (3, _), _, h => h.elim
  | (4, _), _, h => by rcases h with rfl | ⟨a, rfl⟩ <;> simp [Value.category]
  | (_ + 5, _), _, h => h.elim
/-- what the locals really hold -/
def zlv (r : Array Slot) : List (Nat × Value) := (List.range r.size).filterMap (fun (i : Nat) => match (r[i]? : Option Slot) with
  | some (Slot.val w) => some (i, w)
  | _ => none)
theorem zlv_mem {r : Array Slot} {i : Nat} {w : Value} : (i, w) ∈ zlv r ↔ r[i]? = some (.val w) := by
  unfold zlv
  rw [List.mem_filterMap]
  constructor
  · rintro ⟨j, -, h⟩
    split at h
    · rename_i w' hw
      simp only [Option.some.injEq, Prod.mk.injEq] at h
      obtain ⟨rfl, rfl⟩ := h
      exact hw
    · cases h
  · intro h
    have hl := (Array.getElem?_eq_some_iff.mp h).1
    exact ⟨i, List.mem_range.mpr hl, by rw [h]⟩
theorem zlv_has {r : Array Slot} (h : lv_wf r) : lv_has r r.size (zlv r) := ⟨rfl, h, fun q hq => zlv_mem.mp (by exact hq)⟩
theorem zlen_set1 (ls : List mV) (n : Nat) (v : mV) : (lset1 ls n v).length = ls.length := by
  unfold lset1
  split
  · simp
  · split <;> simp
theorem zget_set1 {ls : List mV} {n : Nat} {v : mV} {j : Nat} {u : mV} (h : (lset1 ls n v)[j]? = some u) (hu : u.1 ≠ 3) : (j = n ∧ u = v) ∨ (j ≠ n ∧ ls[j]? = some u ∧ ¬ (j + 1 = n ∧ u.1 = 1)) := by
  unfold lset1 at h
  split at h
  · rw [List.getElem?_set] at h
    split at h
    · rename_i hj
      subst hj
      split at h
      · exact Or.inl ⟨rfl, (Option.some.inj h).symm⟩
      · cases h
    · rename_i hj
      exact Or.inr ⟨fun q => hj q.symm, h, fun q => by omega⟩
  · rename_i n
    split at h
    · rename_i z hz
      rw [List.getElem?_set] at h
      split at h
      · rename_i hj
        subst hj
        split at h
        · exact Or.inl ⟨rfl, (Option.some.inj h).symm⟩
        · cases h
      · rename_i hj
        rw [List.getElem?_set] at h
        split at h
        · split at h
          · obtain rfl := Option.some.inj h
            exact absurd rfl hu
          · cases h
        · rename_i hj2
          exact Or.inr ⟨fun q => hj q.symm, h, fun q => hj2 (by omega)⟩
    · rename_i hz
      rw [List.getElem?_set] at h
      split at h
      · rename_i hj
        subst hj
        split at h
        · exact Or.inl ⟨rfl, (Option.some.inj h).symm⟩
        · cases h
      · rename_i hj
        refine Or.inr ⟨fun q => hj q.symm, h, fun q => ?_⟩
        obtain ⟨q1, q2⟩ := q
        have hjn : j = n := by omega
        subst hjn
        obtain ⟨t, z⟩ := u
        simp only at q2
        subst q2
        exact hz z (by rw [List.getD_eq_getElem?_getD, h]; rfl)
theorem zloc_set1 {ad : Nat → Nat} {σ : mM} {ls : List mV} {r r' : Array Slot} {n : Nat} {v : mV} {w : Value} (h : zloc ad σ ls r) (hv : zval ad σ v w)
    (h' : lv_has r' r.size ((n, w) :: (zlv r).filter (fun q => !(q.1 == n) && !(q.1 + 1 == n && q.2.category == 2)))) : zloc ad σ (lset1 ls n v) r' := by
  refine ⟨by rw [h'.1, zlen_set1]; exact h.1, h'.2.1, fun j u hj hu => ?_⟩
  rcases zget_set1 hj hu with ⟨rfl, rfl⟩ | ⟨h1, h2, h3⟩
  · exact ⟨w, hv, h'.2.2 (j, w) List.mem_cons_self⟩
  · obtain ⟨w2, hw2, hr2⟩ := h.2.2 j u h2 hu
    refine ⟨w2, hw2, h'.2.2 (j, w2) (List.mem_cons_of_mem _ (List.mem_filter.mpr ⟨zlv_mem.mpr hr2, ?_⟩))⟩
    have hc := zcat hw2
    simp only [Bool.and_eq_true, Bool.not_eq_true', beq_eq_false_iff_ne, ne_eq, Bool.and_eq_false_imp, beq_iff_eq]
    exact ⟨h1, fun q => by
      intro hcat
      exact h3 ⟨q, hc.mp hcat⟩⟩
theorem zloc_set2 {ad : Nat → Nat} {σ : mM} {ls : List mV} {r r' : Array Slot} {n : Nat} {v : mV} {w : Value} (h : zloc ad σ ls r) (hv : zval ad σ v w)
    (h' : lv_has r' r.size ((n, w) :: (zlv r).filter (fun q => !(q.1 == n) && (!(q.1 == n + 1) && !(q.1 + 1 == n && q.2.category == 2))))) : zloc ad σ (lset2 ls n v) r' := by
  refine ⟨by rw [h'.1]; unfold lset2; rw [List.length_set, zlen_set1]; exact h.1, h'.2.1, fun j u hj hu => ?_⟩
  unfold lset2 at hj
  rw [List.getElem?_set] at hj
  split at hj
  · split at hj
    · obtain rfl := Option.some.inj hj
      exact absurd rfl hu
    · cases hj
  · rename_i hj2
    rcases zget_set1 hj hu with ⟨rfl, rfl⟩ | ⟨h1, h2, h3⟩
    · exact ⟨w, hv, h'.2.2 (j, w) List.mem_cons_self⟩
    · obtain ⟨w2, hw2, hr2⟩ := h.2.2 j u h2 hu
      refine ⟨w2, hw2, h'.2.2 (j, w2) (List.mem_cons_of_mem _ (List.mem_filter.mpr ⟨zlv_mem.mpr hr2, ?_⟩))⟩
      have hc := zcat hw2
      simp only [Bool.and_eq_true, Bool.not_eq_true', beq_eq_false_iff_ne, ne_eq, Bool.and_eq_false_imp, beq_iff_eq]
      exact ⟨h1, fun q => hj2 q.symm, fun q => by
        intro hcat
        exact h3 ⟨q, hc.mp hcat⟩⟩
