/-! THE SIMULATION: calls -/
set_option maxRecDepth 100000
set_option maxHeartbeats 4000000
section ZM
variable {l : Launch} {D : va_G} {tc : Nat → ClassId} {A : Nat → Prop} {ex : Nat → Nat} {σ0 : mM} {kn : Nat → Nat → Option Int}
variable {d y : Nat} {k : mC} {ls st : List mV} {σ : mM} {Aq : mA} {Bq : mB} {pc : Nat} {C : zC}
theorem zst_len {ad : Nat → Nat} {σ : mM} : ∀ {st : List mV} {q : List Value}, zst ad σ st q → st.length = q.length
  | [], [], _ => rfl
  | _ :: _, _ :: _, h => by simp [zst_len h.2]
  | [], _ :: _, h => h.elim
  | _ :: _, [], h => h.elim
theorem zst_drop {ad : Nat → Nat} {σ : mM} : ∀ (n : Nat) {st : List mV} {q : List Value}, zst ad σ st q → zst ad σ (st.drop n) (q.drop n)
  | 0, _, _, h => h
  | _ + 1, [], [], _ => trivial
  | n + 1, _ :: _, _ :: _, h => zst_drop n h.2
  | _ + 1, [], _ :: _, h => h.elim
  | _ + 1, _ :: _, [], h => h.elim
theorem zst_take {ad : Nat → Nat} {σ : mM} : ∀ (n : Nat) {st : List mV} {q : List Value}, zst ad σ st q → zst ad σ (st.take n) (q.take n)
  | 0, _, _, _ => trivial
  | _ + 1, [], [], _ => trivial
  | n + 1, _ :: _, _ :: _, h => ⟨h.1, zst_take n h.2⟩
  | _ + 1, [], _ :: _, h => h.elim
  | _ + 1, _ :: _, [], h => h.elim
theorem zst_app {ad : Nat → Nat} {σ : mM} : ∀ {a b : List mV} {p q : List Value}, zst ad σ a p → zst ad σ b q → zst ad σ (a ++ b) (p ++ q)
  | [], _, [], _, _, h => h
  | _ :: _, _, _ :: _, _, h, g => ⟨h.1, zst_app h.2 g⟩
  | [], _, _ :: _, _, h, _ => h.elim
  | _ :: _, _, [], _, h, _ => h.elim
theorem zst_rev {ad : Nat → Nat} {σ : mM} : ∀ {a : List mV} {p : List Value}, zst ad σ a p → zst ad σ a.reverse p.reverse
  | [], [], _ => trivial
  | v :: a, w :: p, h => by
    rw [List.reverse_cons, List.reverse_cons]
    exact zst_app (zst_rev h.2) ⟨h.1, trivial⟩
  | [], _ :: _, h => h.elim
  | _ :: _, [], h => h.elim
theorem noN_ok {l : List mV} {n : Nat} {P : Prop} (h : noN l n P) : l.length ≤ n ∧ P := by
  unfold noN at h
  split at h
  · rename_i q
    exact ⟨by simpa using q, h⟩
  · exact h.elim
theorem argL_ne {t : Nat} {z : Int} {a : List mV} (h : ¬ t = 1) : argL ((t, z) :: a) = (t, z) :: argL a := by
  match t, h with
  | 0, _ => rfl
  | 1, h => exact absurd rfl h
  | _ + 2, _ => rfl
/-- arguments, as they lie in the locals of the new frame -/
theorem zarg_len {ad : Nat → Nat} {σ : mM} : ∀ {a : List mV} {p : List Value}, zst ad σ a p → (argL a).length = (lg_sl p).length
  | [], [], _ => rfl
  | (t, z) :: a, w :: p, h => by
    have ih := zarg_len h.2
    have hc := zcat h.1
    unfold lg_sl at ih ⊢
    rw [List.flatMap_cons, List.length_append]
    by_cases ht : t = 1
    · subst ht
      rw [if_pos (hc.mpr rfl)]
      simp only [argL, List.length_cons, List.length_nil]
      omega
    · rw [if_neg (fun q => ht (hc.mp q))]
      have : argL ((t, z) :: a) = (t, z) :: argL a := argL_ne ht
      rw [this]
      simp only [List.length_cons, List.length_nil]
      omega
  | [], _ :: _, h => h.elim
  | _ :: _, [], h => h.elim
theorem zarg_get {ad : Nat → Nat} {σ : mM} : ∀ {a : List mV} {p : List Value}, zst ad σ a p → ∀ (i : Nat) (v : mV), (argL a)[i]? = some v → v.1 ≠ 3 → ∃ w, zval ad σ v w ∧ (lg_sl p)[i]? = some (.val w)
  | [], [], _, i, v, hi, _ => by simp [argL] at hi
  | (t, z) :: a, w :: p, h, i, v, hi, hv => by
    have ih := zarg_get h.2
    have hc := zcat h.1
    have hsl : lg_sl (w :: p) = (if w.category = 2 then [.val w, .second] else [.val w]) ++ lg_sl p := by unfold lg_sl; rw [List.flatMap_cons]
    rw [hsl]
    by_cases ht : t = 1
    · subst ht
      rw [if_pos (hc.mpr rfl)]
      simp only [argL] at hi
      match i, hi with
      | 0, hi =>
        simp only [List.getElem?_cons_zero, Option.some.injEq] at hi
        subst hi
        exact ⟨w, h.1, rfl⟩
      | 1, hi =>
        simp only [List.getElem?_cons_succ, List.getElem?_cons_zero, Option.some.injEq] at hi
        subst hi
        exact absurd rfl hv
      | i + 2, hi =>
        simp only [List.getElem?_cons_succ] at hi
        obtain ⟨u, hu1, hu2⟩ := ih i v hi hv
        exact ⟨u, hu1, by simpa using hu2⟩
    · rw [if_neg (fun q => ht (hc.mp q))]
      have : argL ((t, z) :: a) = (t, z) :: argL a := argL_ne ht
      rw [this] at hi
      match i, hi with
      | 0, hi =>
        simp only [List.getElem?_cons_zero, Option.some.injEq] at hi
        subst hi
        exact ⟨w, h.1, rfl⟩
      | i + 1, hi =>
        simp only [List.getElem?_cons_succ] at hi
        obtain ⟨u, hu1, hu2⟩ := ih i v hi hv
        exact ⟨u, hu1, by simpa using hu2⟩
  | [], _ :: _, h, _, _, _, _ => h.elim
  | _ :: _, [], h, _, _, _, _ => h.elim
theorem padTo_len : ∀ (n : Nat) (l : List mV), (padTo n l).length = n
  | 0, _ => rfl
  | n + 1, [] => by simp [padTo, padTo_len n []]
  | n + 1, v :: r => by simp [padTo, padTo_len n r]
theorem padTo_get : ∀ (n : Nat) (l : List mV) (i : Nat) (v : mV), (padTo n l)[i]? = some v → v.1 ≠ 3 → l[i]? = some v
  | 0, _, i, v, h, _ => by simp [padTo] at h
  | n + 1, [], 0, v, h, hv => by
    simp only [padTo, List.getElem?_cons_zero, Option.some.injEq] at h
    subst h
    exact absurd rfl hv
  | n + 1, [], i + 1, v, h, hv => by
    simp only [padTo, List.getElem?_cons_succ] at h
    have := padTo_get n [] i v h hv
    simp at this
  | n + 1, u :: r, 0, v, h, hv => by
    simp only [padTo, List.getElem?_cons_zero] at h ⊢
    exact h
  | n + 1, u :: r, i + 1, v, h, hv => by
    simp only [padTo, List.getElem?_cons_succ] at h ⊢
    exact padTo_get n r i v h hv
theorem zentry {ad : Nat → Nat} {σ : mM} {a : List mV} {p : List Value} {n : Nat} (h : zst ad σ a p) (hn : (argL a).length ≤ mxL n) : zloc ad σ (entL n a) ((lg_sl p ++ List.replicate (mxL n - (lg_sl p).length) Slot.unset).toArray) := by
  have hl := zarg_len h
  have he := lv_entry p (n := mxL n) (by omega)
  refine ⟨by rw [he.1]; unfold entL; rw [padTo_len], he.2.1, fun i v hi hv => ?_⟩
  unfold entL at hi
  have h1 := padTo_get _ _ _ _ hi hv
  obtain ⟨w, hw, hs⟩ := zarg_get h i v h1 hv
  refine ⟨w, hw, ?_⟩
  have hlt : i < (lg_sl p).length := (List.getElem?_eq_some_iff.mp hs).1
  rw [List.getElem?_toArray, List.getElem?_append_left hlt]
  exact hs
theorem zExt_kept {s : State} {H H1 : Heap} (h : zExt A ex σ0 s H) (hsz : H.size ≤ H1.size) (hq : ∀ a : Nat, a < H.size → ¬ A a → H1[a]? = H[a]?) : zExt A ex σ0 s H1 := by
  obtain ⟨⟨L, xs, h1, h2, h3, h4⟩, h5, h6, h7⟩ := h
  refine ⟨⟨L, xs, h1.kept (hq _ h2 h3), by omega, h3, h4⟩, fun i hi => ?_, h6.kept hq, h7.kept hq⟩
  obtain ⟨g1, g2, g3, g4, g5⟩ := h5 i hi
  exact ⟨g1.kept hq, g2.kept hq, g3.kept hq, g4.kept hq, g5⟩
theorem zExt_moved {s U : State} {H : Heap} (hvm : s.vm.Alike U.vm) (h : zExt A ex σ0 s H) : zExt A ex σ0 U H := by
  obtain ⟨⟨L, xs, h1, h2, h3, h4⟩, h5, h6, h7⟩ := h
  refine ⟨⟨L, xs, va_X.moved hvm h1, h2, h3, h4⟩, fun i hi => ?_, va_Z.moved hvm h6, va_Zq.moved hvm h7⟩
  obtain ⟨g1, g2, g3, g4, g5⟩ := h5 i hi
  exact ⟨va_O.moved hvm g1, va_OF.moved hvm g2, va_OF.moved hvm g3, va_T.moved hvm g4, g5⟩
theorem zThw_moved {s U : State} (hvm : s.vm.Alike U.vm) (h : ∀ w ∈ zThw, ∀ a : Array Value, w.before a s = true) : ∀ w ∈ zThw, ∀ a : Array Value, w.before a U = true := by
  intro w hw a
  have h0 := h w hw a
  simp only [zThw, List.mem_cons, List.not_mem_nil, or_false] at hw
  rcases hw with rfl | rfl | rfl | rfl | rfl | rfl | rfl | rfl | rfl
  · exact (Cond.castable_setVm (args := a) hvm _ _).trans h0
  · exact (Cond.castable_setVm (args := a) hvm _ _).trans h0
  · exact (Cond.castable_setVm (args := a) hvm _ _).trans h0
  · exact (Cond.castable_setVm (args := a) hvm _ _).trans h0
  · exact (Cond.declares_setVm (args := a) hvm _).trans h0
  · exact (Cond.declares_setVm (args := a) hvm _).trans h0
  · exact (Cond.declares_setVm (args := a) hvm _).trans h0
  · exact (Cond.arrayOver_setVmC (args := a) hvm _).trans h0
  · exact (Cond.arrayOver_setVmC (args := a) hvm _).trans h0
theorem zlays_moved {n d C : String} {s U : State} (hZ : va_Zq C n d A s s.heap) (h : ∀ a : Array Value, (Cond.laysStatic C n d).before a s = true) (hvm : s.vm.Alike U.vm) (hq : ∀ a : Nat, a < s.heap.size → ¬ A a → U.heap[a]? = s.heap[a]?) : ∀ a : Array Value, (Cond.laysStatic C n d).before a U = true := by
  intro a
  obtain ⟨v, hZ⟩ : ∃ v, va_Z C n d v A s s.heap := by
    rcases hZ with h | ⟨t, h⟩
    · exact ⟨_, h⟩
    · exact ⟨_, h⟩
  obtain ⟨cf, kf, fi, f, b, cell, h1, h2, h3, h4, h5, h6, h7, h8⟩ := va_Z.moved hvm hZ
  have g := Cond.laysStatic_setVm (args := a) hvm (h a)
  have e1 : U.heap[b]? = some cell := (hq b (Array.getElem?_eq_some_iff.mp h5).1 h8).trans h5
  have e2 : (s.setVm U.vm).heap[b]? = some cell := h5
  have e3 : (s.setVm U.vm).fieldFound? C n d = some (cf, kf, fi, f) := h1
  have e4 : (s.setVm U.vm).vm.findClass C = U.vm.findClass C := rfl
  simp only [Cond.before, Cond.holds, Cond.value, h1] at g ⊢
  rw [e3, e4] at g
  cases hF : U.vm.findClass C with
  | none => rw [hF] at g; simp at g
  | some c0 =>
    rw [hF] at g
    simp only [h4, Option.bind_some, e1, e2] at g ⊢
    exact g
theorem zNo_moved {s U : State} (hvm : s.vm.Alike U.vm) (h : zNo s) : zNo U := by
  intro i j hi hj hij
  obtain ⟨ci, cj, h1, h2, h3⟩ := h i j hi hj hij
  exact ⟨ci, cj, by rw [hvm.findClass]; exact h1, by rw [hvm.findClass]; exact h2, by rw [hvm.assignable]; exact h3⟩
theorem zXt_moved {e : Env} {s U : State} {c c' : Code} {y y' : Nat} (hW : s.WarmedH U.vm) (hsz : s.heap.size ≤ U.heap.size) (hq : ∀ a : Nat, a < s.heap.size → ¬ A a → U.heap[a]? = s.heap[a]?)
    (hh : c'.exceptionTable.toList.map (fun x => (x.startPc, x.endPc, x.handlerPc, x.catchType)) = zhr y') (h : zXt A ex e s c y) : zXt A ex e U c' y' := by
  obtain ⟨-, h2, h3, h4, h5, h6, h7, h8, h9, h10⟩ := h
  refine ⟨hh, fun t ht => ?_, fun q hq => h3 q (by omega), h4, zNo_moved hW.alike h5, zThw_moved hW.alike h6, va_Zq.moved hW.alike (h7.kept hq), va_Zq.moved hW.alike (h8.kept hq), zlays_moved h7 h9 hW.alike hq, zlays_moved h8 h10 hW.alike hq⟩
  obtain ⟨tx, hx⟩ := h2 t ht
  exact ⟨tx, vk_R.warm hW hx⟩
end ZM
