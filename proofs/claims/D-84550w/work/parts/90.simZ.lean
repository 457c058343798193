/-! THE SIMULATION: what the mini machine reaches, the real one reaches -/
set_option maxRecDepth 100000
set_option maxHeartbeats 4000000
section ZZ
variable {l : Launch} {D : va_G} {tc : Nat → ClassId} {A : Nat → Prop} {ex : Nat → Nat} {σ0 : mM} {kn : Nat → Nat → Option Int}
theorem zcd_out (y : Nat) (h : cd y ≠ []) : y < 462 := by
  rcases Nat.lt_or_ge y 480 with h1 | h1
  · have : ∀ a, a < 480 → 462 ≤ a → cd a = [] := by
      have h2 : ∀ a, a < 480 → 462 ≤ a → (cd a).isEmpty = true := by decide +kernel
      exact fun a p q => List.isEmpty_iff.mp (h2 a p q)
    rcases Nat.lt_or_ge y 462 with h2 | h2
    · exact h2
    · exact absurd (this y h1 h2) h
  · exfalso
    apply h
    unfold cd
    have : cdT.length = 15 := by decide +kernel
    rw [List.getD_eq_getElem?_getD (l := cdT), List.getElem?_eq_none (by omega)]
    rfl
theorem zcd_in {y pc : Nat} {i : Instr} {k : mC} (h : (pc, i) :: k <:+ cd y) : y ∈ (List.range 462).drop 2 := by
  have hne : cd y ≠ [] := fun z => by
    rw [z] at h
    have := List.suffix_nil.mp h
    cases this
  have h1 := zcd_out y hne
  have h2 : ¬ y = 0 := fun z => by subst z; exact hne (by decide +kernel)
  have h3 : ¬ y = 1 := fun z => by subst z; exact hne (by decide +kernel)
  have : (List.range 462).drop 2 = List.range' 2 460 := by rw [List.range_eq_range', List.drop_range']
  rw [this, List.mem_range']
  exact ⟨y - 2, by omega, by omega⟩
theorem zcl_real (hall : ∀ y ∈ (List.range 462).drop 2, zokL y (cd y) = true) (hka : ∀ a p, (shp a).1 < 100 → kn a p = none) (hk0 : kn 156 0 = none → ∀ a p, kn a p = none) (hk00 : ∀ p, kn 0 p = none) :
    zcl kn (zReal l D tc A ex σ0 kn) := by
  refine ⟨?_, ?_, ?_⟩
  · intro d y k ls st σ A1 A2 B1 B2 f g h p e R s m args below meth c hc hr ad H locs cells slots lsR stR C0 S0 hC hS hz hlo hle hst Qw qa qb
    exact h p e R s m args below meth c hc hr ad H locs cells slots lsR stR C0 S0 hC hS hz hlo hle hst Qw (fun σ' ad' t o v a1 => qa σ' ad' t o v (f _ _ a1)) (fun σ' ad' t kd xa a1 => qb σ' ad' t kd xa (g _ _ a1))
  · intro d y k ls ls' st σ A1 B1 f h p e R s m args below meth c hc hr ad H locs cells slots lsR stR C0 S0 hC hS hz hlo hle hst Qw qa qb
    exact h p e R s m args below meth c hc hr ad H locs cells slots lsR stR C0 S0 hC hS hz ⟨hlo.1.trans f.1.symm, hlo.2.1, fun i v hi hv => hlo.2.2 i v (f.2 i v hi hv) hv⟩ (f.1.trans hle) hst Qw qa qb
  · intro d y pc i k ls st σ A1 B1 hs h
    rcases Classical.em (¬ WT kn σ) with hw | hw
    · intro p e R s m args below meth c hc hr ad H locs cells slots lsR stR C0 S0 hC hS hz
      exact absurd ⟨hz.1.1.2.2.2.2, hz.1.2.2.2.2.1⟩ hw
    replace h := h (Classical.not_not.mp hw)
    have hy := zcd_in hs
    have hal : ∀ pc i k, (pc, i) :: k <:+ cd y → zokI y pc i k = true := fun pc i k hs => zok_suf _ (hall y hy) hs
    have ho := hal pc i k hs
    cases i
    case iadd => exact zc_iadd hs ho h
    case isub => exact zc_isub hs ho h
    case imul => exact zc_imul hs ho h
    case dadd => exact zc_dadd hs ho h
    case dsub => exact zc_dsub hs ho h
    case dmul => exact zc_dmul hs ho h
    case ladd => exact zc_ladd hs ho h
    case lsub => exact zc_lsub hs ho h
    case lmul => exact zc_lmul hs ho h
    case iand => exact zc_iand hs ho h
    case ior => exact zc_ior hs ho h
    case ixor => exact zc_ixor hs ho h
    case ishl => exact zc_ishl hs ho h
    case ishr => exact zc_ishr hs ho h
    case iushr => exact zc_iushr hs ho h
    case land => exact zc_land hs ho h
    case lor => exact zc_lor hs ho h
    case idiv => exact zc_idiv hs ho h
    case ldiv => exact zc_ldiv hs ho h
    case irem => exact zc_irem hs ho h
    case lrem => exact zc_lrem hs ho h
    case lshl => exact zc_lshl hs ho h
    case lshr => exact zc_lshr hs ho h
    case lushr => exact zc_lushr hs ho h
    case ineg => exact zc_ineg hs ho h
    case lneg => exact zc_lneg hs ho h
    case i2l => exact zc_i2l hs ho h
    case l2i => exact zc_l2i hs ho h
    case i2c => exact zc_i2c hs ho h
    case iload n => exact zc_iload hs ho h
    case lload n => exact zc_lload hs ho h
    case aload n => exact zc_aload hs ho h
    case istore n => exact zc_istore hs ho h
    case fstore n => exact zc_fstore hs ho h
    case lstore n => exact zc_lstore hs ho h
    case dstore n => exact zc_dstore hs ho h
    case astore n => exact zc_astore hs ho h
    case iconst v => exact zc_iconst hs ho h
    case bipush v => exact zc_bipush hs ho h
    case dup => exact zc_dup hs ho h
    case pop => exact zc_pop hs ho h
    case dup2 => exact zc_dup2 hs ho h
    case ifCond c t => exact zc_ifCond hs ho h
    case if_icmp c t => exact zc_if_icmp hs ho h
    case goto t => exact zc_goto hs ho h
    case iinc n c => exact zc_iinc hs ho h
    case lcmp => exact zc_lcmp hal hs h
    case tableswitch df lo hi offs => exact zc_tableswitch hs ho h
    case iaload => exact zc_iaload hs ho h
    case laload => exact zc_laload hs ho h
    case baload => exact zc_baload hs ho h
    case aaload => exact zc_aaload hs ho h
    case arraylength => exact zc_arraylength hs ho h
    case getfield q => exact zc_getfield hs ho h
    case iastore => exact zc_iastore hka hs ho h
    case lastore => exact zc_lastore hka hs ho h
    case bastore => exact zc_bastore hka hs ho h
    case i2b => exact zc_i2b hka hal hs h
    case i2s => exact zc_i2s hka hal hs h
    case putfield q => exact zc_putfield hs ho h
    case ireturn => exact zc_ireturn hs ho h
    case freturn => exact zc_freturn hs ho h
    case dreturn => exact zc_dreturn hs ho h
    case areturn => exact zc_areturn hs ho h
    case lreturn => exact zc_lreturn hs ho h
    case return_ => exact zc_return hs ho h
    case invokevirtual q => exact zc_invokevirtual hy hs ho h
    case invokespecial q => exact zc_invokespecial hy hs ho h
    case invokestatic q =>
      by_cases hq : q / 64 = 0
      · exact zc_arraycopy hka hy hq hs ho h
      · exact zc_invokestatic hy hq hs ho h
    case getstatic v => exact zc_getstatic hs ho h
    case sipush v => exact zc_sipush hs ho h
    case aastore => exact zc_aastore hka hs ho h
    case newarray t => exact zc_newarray hk0 hs ho h
    case anewarray t => exact zc_anewarray hk0 hs ho h
    case multianewarray a b => exact zc_multi hka hk0 hs ho h
    case new t =>
      by_cases ht : Nat.blt t 1000 = true
      · exact zc_new ht hk0 hs ho h
      · exact zc_newx hk00 (Bool.eq_false_iff.mpr ht) hy hs ho h
    all_goals
      unfold sem at h
      exact h.elim
end ZZ
