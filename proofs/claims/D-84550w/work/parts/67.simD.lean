/-! THE SIMULATION: stores, constants, stack, branches; printed by tools/gensimd.py -/
set_option maxRecDepth 100000
set_option maxHeartbeats 4000000
section ZD
variable {l : Launch} {D : va_G} {tc : Nat → ClassId} {A : Nat → Prop} {ex : Nat → Nat} {σ0 : mM} {kn : Nat → Nat → Option Int}
variable {d y : Nat} {k : mC} {ls st : List mV} {σ : mM} {Aq : mA} {Bq : mB} {pc : Nat} {C : zC}
theorem hasN_ok {l : List mV} {n : Nat} {P : Prop} (h : hasN l n P) : n < l.length ∧ P := by
  unfold hasN at h
  split at h
  · exact h.elim
  · rename_i v r hd
    refine ⟨?_, h⟩
    rcases Nat.lt_or_ge n l.length with q | q
    · exact q
    · rw [List.drop_eq_nil_of_le q] at hd; cases hd
theorem zc_istore {n : Nat} (hs : (pc, .istore n) :: k <:+ cd y) (ho : zokI y pc (.istore n) k = true) (h : sem kn C d y pc (.istore n) k ls st σ Aq Bq (fun k ls st σ => zReal l D tc A ex σ0 kn d y k ls st σ Aq Bq)) : zReal l D tc A ex σ0 kn d y ((pc, .istore n) :: k) ls st σ Aq Bq := by
  intro p e R s m args below meth c hc hr ad H locs cells slots lsR stR C0 S0 hC hS hz hlo hle hst Qw qa qb pc' i' k'' he _
  cases he
  have hc0 := hc
  have go := zgo_of (k := k) ((List.suffix_cons _ _).trans hs) hc hr hC hS qa qb
  obtain ⟨hx, hb, hml, hrt, hlk, hown, hts, hK, hE, hnm, hn1, hn2⟩ := hc
  unfold sem at h
  dsimp only at h
  split at h
  · rename_i z r
    obtain ⟨hn, h⟩ := hasN_ok h
    obtain ⟨x1, q1, rfl, ex1, hst⟩ := zst_i hst
    rcases zd4_ok (show zd4 y pc k n _ _ = true from ho) with ⟨j, hj, ho⟩ | ho
    · obtain ⟨hd, i2, k2, e2⟩ := zdn_ok ho
      exact lv_istore_n hx hb hd hj (zlv_has hlo.2.1) (by rw [hlo.1]; exact hn) rfl (fun ls' h' => go _ _ _ _ _ _ _ _ _ _ h zLat.rf hz (zloc_set1 hlo ⟨x1, rfl, ex1⟩ h') ((zlen_set1 _ _ _).trans hle) hst _ _ _ e2)
    · obtain ⟨hd, i2, k2, e2⟩ := zdn_ok ho
      exact lv_istore hx hb hd (zlv_has hlo.2.1) (by rw [hlo.1]; exact hn) rfl (fun ls' h' => go _ _ _ _ _ _ _ _ _ _ h zLat.rf hz (zloc_set1 hlo ⟨x1, rfl, ex1⟩ h') ((zlen_set1 _ _ _).trans hle) hst _ _ _ e2)
  · exact h.elim
theorem zc_fstore {n : Nat} (hs : (pc, .fstore n) :: k <:+ cd y) (ho : zokI y pc (.fstore n) k = true) (h : sem kn C d y pc (.fstore n) k ls st σ Aq Bq (fun k ls st σ => zReal l D tc A ex σ0 kn d y k ls st σ Aq Bq)) : zReal l D tc A ex σ0 kn d y ((pc, .fstore n) :: k) ls st σ Aq Bq := by
  intro p e R s m args below meth c hc hr ad H locs cells slots lsR stR C0 S0 hC hS hz hlo hle hst Qw qa qb pc' i' k'' he _
  cases he
  have hc0 := hc
  have go := zgo_of (k := k) ((List.suffix_cons _ _).trans hs) hc hr hC hS qa qb
  obtain ⟨hx, hb, hml, hrt, hlk, hown, hts, hK, hE, hnm, hn1, hn2⟩ := hc
  unfold sem at h
  dsimp only at h
  split at h
  · rename_i z r
    obtain ⟨hn, h⟩ := hasN_ok h
    obtain ⟨x1, q1, rfl, ex1, hst⟩ := zst_i hst
    rcases zd4_ok (show zd4 y pc k n _ _ = true from ho) with ⟨j, hj, ho⟩ | ho
    · obtain ⟨hd, i2, k2, e2⟩ := zdn_ok ho
      exact lv_istore_n hx hb hd hj (zlv_has hlo.2.1) (by rw [hlo.1]; exact hn) rfl (fun ls' h' => go _ _ _ _ _ _ _ _ _ _ (h _ rfl) zLat.rf hz (zloc_set1 hlo ⟨x1, rfl, ex1⟩ h') ((zlen_set1 _ _ _).trans hle) hst _ _ _ e2)
    · obtain ⟨hd, i2, k2, e2⟩ := zdn_ok ho
      exact lv_istore hx hb hd (zlv_has hlo.2.1) (by rw [hlo.1]; exact hn) rfl (fun ls' h' => go _ _ _ _ _ _ _ _ _ _ (h _ rfl) zLat.rf hz (zloc_set1 hlo ⟨x1, rfl, ex1⟩ h') ((zlen_set1 _ _ _).trans hle) hst _ _ _ e2)
  · exact h.elim
theorem zc_lstore {n : Nat} (hs : (pc, .lstore n) :: k <:+ cd y) (ho : zokI y pc (.lstore n) k = true) (h : sem kn C d y pc (.lstore n) k ls st σ Aq Bq (fun k ls st σ => zReal l D tc A ex σ0 kn d y k ls st σ Aq Bq)) : zReal l D tc A ex σ0 kn d y ((pc, .lstore n) :: k) ls st σ Aq Bq := by
  intro p e R s m args below meth c hc hr ad H locs cells slots lsR stR C0 S0 hC hS hz hlo hle hst Qw qa qb pc' i' k'' he _
  cases he
  have hc0 := hc
  have go := zgo_of (k := k) ((List.suffix_cons _ _).trans hs) hc hr hC hS qa qb
  obtain ⟨hx, hb, hml, hrt, hlk, hown, hts, hK, hE, hnm, hn1, hn2⟩ := hc
  unfold sem at h
  dsimp only at h
  split at h
  · rename_i z r
    obtain ⟨hn, h⟩ := hasN_ok h
    obtain ⟨x1, q1, rfl, ex1, hst⟩ := zst_l hst
    have hle2 : (lset2 ls n (1, z)).length = mxL y := by unfold lset2; rw [List.length_set, zlen_set1]; exact hle
    rcases zd4_ok (show zd4 y pc k n _ _ = true from ho) with ⟨j, hj, ho⟩ | ho
    · obtain ⟨hd, i2, k2, e2⟩ := zdn_ok ho
      exact lv_lstore_n hx hb hd hj (zlv_has hlo.2.1) (by rw [hlo.1]; exact hn) rfl (fun ls' h' => go _ _ _ _ _ _ _ _ _ _ h zLat.rf hz (zloc_set2 hlo ⟨x1, rfl, ex1⟩ h') hle2 hst _ _ _ e2)
    · obtain ⟨hd, i2, k2, e2⟩ := zdn_ok ho
      exact lv_lstore hx hb hd (zlv_has hlo.2.1) (by rw [hlo.1]; exact hn) rfl (fun ls' h' => go _ _ _ _ _ _ _ _ _ _ h zLat.rf hz (zloc_set2 hlo ⟨x1, rfl, ex1⟩ h') hle2 hst _ _ _ e2)
  · exact h.elim
theorem zc_dstore {n : Nat} (hs : (pc, .dstore n) :: k <:+ cd y) (ho : zokI y pc (.dstore n) k = true) (h : sem kn C d y pc (.dstore n) k ls st σ Aq Bq (fun k ls st σ => zReal l D tc A ex σ0 kn d y k ls st σ Aq Bq)) : zReal l D tc A ex σ0 kn d y ((pc, .dstore n) :: k) ls st σ Aq Bq := by
  intro p e R s m args below meth c hc hr ad H locs cells slots lsR stR C0 S0 hC hS hz hlo hle hst Qw qa qb pc' i' k'' he _
  cases he
  have hc0 := hc
  have go := zgo_of (k := k) ((List.suffix_cons _ _).trans hs) hc hr hC hS qa qb
  obtain ⟨hx, hb, hml, hrt, hlk, hown, hts, hK, hE, hnm, hn1, hn2⟩ := hc
  unfold sem at h
  dsimp only at h
  split at h
  · rename_i z r
    obtain ⟨hn, h⟩ := hasN_ok h
    obtain ⟨x1, q1, rfl, ex1, hst⟩ := zst_l hst
    have hle2 : (lset2 ls n (1, z)).length = mxL y := by unfold lset2; rw [List.length_set, zlen_set1]; exact hle
    rcases zd4_ok (show zd4 y pc k n _ _ = true from ho) with ⟨j, hj, ho⟩ | ho
    · obtain ⟨hd, i2, k2, e2⟩ := zdn_ok ho
      exact lv_lstore_n hx hb hd hj (zlv_has hlo.2.1) (by rw [hlo.1]; exact hn) rfl (fun ls' h' => go _ _ _ _ _ _ _ _ _ _ (h _ rfl) zLat.rf hz (zloc_set2 hlo ⟨x1, rfl, ex1⟩ h') hle2 hst _ _ _ e2)
    · obtain ⟨hd, i2, k2, e2⟩ := zdn_ok ho
      exact lv_lstore hx hb hd (zlv_has hlo.2.1) (by rw [hlo.1]; exact hn) rfl (fun ls' h' => go _ _ _ _ _ _ _ _ _ _ (h _ rfl) zLat.rf hz (zloc_set2 hlo ⟨x1, rfl, ex1⟩ h') hle2 hst _ _ _ e2)
  · exact h.elim
theorem zw_astore {p : Program} {e : Env} {R : Room} {s : State} {m : MethodId} {args : Array Value} {below : List Frame} {meth : Method} {c : Code} {H : Heap} {locs : List Loc} {cells slots : Nat} {lsR : Array Slot} {stR : List Value} {Qw : State → Prop} {n : Nat} {w : Value} (hx : p.tables.exec = Jvm.exec) (hb : c.code = zcoN y) (ho : zokI y pc (.astore n) k = true) (hw : w = .null ∨ ∃ a, w = .ref a) (hwf : lv_wf lsR) (hn : n < lsR.size)
    (kk : ∀ (q : Nat) (i : Instr) (k' : mC), k = (q, i) :: k' → ∀ ls' : Array Slot, lv_has ls' lsR.size ((n, w) :: (zlv lsR).filter (fun q => !(q.1 == n) && !(q.1 + 1 == n && q.2.category == 2))) → W p l e R s m args below meth c H locs cells slots Qw (F0 m q ls' stR)) : W p l e R s m args below meth c H locs cells slots Qw (F0 m pc lsR (w :: stR)) := by
  rcases zd4_ok (show zd4 y pc k n _ _ = true from ho) with ⟨j, hj, ho⟩ | ho
  · obtain ⟨hd, i2, k2, e2⟩ := zdn_ok ho
    rcases hw with rfl | ⟨a, rfl⟩
    · exact lv_astore_nN hx hb hd hj (zlv_has hwf) hn rfl (fun ls' h' => kk _ _ _ e2 ls' h')
    · exact lv_astore_n hx hb hd hj (zlv_has hwf) hn rfl (fun ls' h' => kk _ _ _ e2 ls' h')
  · obtain ⟨hd, i2, k2, e2⟩ := zdn_ok ho
    rcases hw with rfl | ⟨a, rfl⟩
    · exact lv_astoreN hx hb hd (zlv_has hwf) hn rfl (fun ls' h' => kk _ _ _ e2 ls' h')
    · exact lv_astore hx hb hd (zlv_has hwf) hn rfl (fun ls' h' => kk _ _ _ e2 ls' h')
theorem zc_astore {n : Nat} (hs : (pc, .astore n) :: k <:+ cd y) (ho : zokI y pc (.astore n) k = true) (h : sem kn C d y pc (.astore n) k ls st σ Aq Bq (fun k ls st σ => zReal l D tc A ex σ0 kn d y k ls st σ Aq Bq)) : zReal l D tc A ex σ0 kn d y ((pc, .astore n) :: k) ls st σ Aq Bq := by
  intro p e R s m args below meth c hc hr ad H locs cells slots lsR stR C0 S0 hC hS hz hlo hle hst Qw qa qb pc' i' k'' he _
  cases he
  have hc0 := hc
  have go := zgo_of (k := k) ((List.suffix_cons _ _).trans hs) hc hr hC hS qa qb
  obtain ⟨hx, hb, hml, hrt, hlk, hown, hts, hK, hE, hnm, hn1, hn2⟩ := hc
  unfold sem at h
  dsimp only at h
  split at h
  · rename_i z r
    obtain ⟨hn, h⟩ := hasN_ok h
    obtain ⟨w, q1, rfl, hw, hst⟩ := zst_c hst
    exact zw_astore hx hb ho (zref_of hw) hlo.2.1 (by rw [hlo.1]; exact hn) (fun q i k' e2 ls' h' => go _ _ _ _ _ _ _ _ _ _ h zLat.rf hz (zloc_set1 hlo hw h') ((zlen_set1 _ _ _).trans hle) hst _ _ _ e2)
  · rename_i z r
    obtain ⟨hn, h⟩ := hasN_ok h
    obtain ⟨w, q1, rfl, hw, hst⟩ := zst_c hst
    exact zw_astore hx hb ho hw hlo.2.1 (by rw [hlo.1]; exact hn) (fun q i k' e2 ls' h' => go _ _ _ _ _ _ _ _ _ _ h zLat.rf hz (zloc_set1 hlo hw h') ((zlen_set1 _ _ _).trans hle) hst _ _ _ e2)
  · exact h.elim
theorem zc_iconst {v : Int} (hs : (pc, .iconst v) :: k <:+ cd y) (ho : zokI y pc (.iconst v) k = true) (h : sem kn C d y pc (.iconst v) k ls st σ Aq Bq (fun k ls st σ => zReal l D tc A ex σ0 kn d y k ls st σ Aq Bq)) : zReal l D tc A ex σ0 kn d y ((pc, .iconst v) :: k) ls st σ Aq Bq := by
  intro p e R s m args below meth c hc hr ad H locs cells slots lsR stR C0 S0 hC hS hz hlo hle hst Qw qa qb pc' i' k'' he _
  cases he
  have hc0 := hc
  have go := zgo_of (k := k) ((List.suffix_cons _ _).trans hs) hc hr hC hS qa qb
  obtain ⟨hx, hb, hml, hrt, hlk, hown, hts, hK, hE, hnm, hn1, hn2⟩ := hc
  unfold sem at h
  dsimp only at h
  unfold zokI at ho
  dsimp only at ho
  simp only [Bool.and_eq_true, decide_eq_true_eq] at ho
  obtain ⟨hv, ho⟩ := ho
  have hg : ∀ q, nxb k q = true → W p l e R s m args below meth c H locs cells slots Qw (F0 m q lsR (.int (Int32.ofInt v) :: stR)) := by
    intro q hq
    obtain ⟨i2, k2, e2⟩ := nxb_ok hq
    exact go _ _ _ _ _ _ _ _ _ _ h zLat.rf hz hlo hle (zpi (i32_to hv) hst) _ _ _ e2
  split at ho
  · rename_i u n hd
    simp only [Bool.and_eq_true, decide_eq_true_eq] at ho
    obtain ⟨⟨rfl, hn⟩, hq⟩ := ho
    obtain rfl := Nat.eq_of_beq_eq_true hn
    exact lv_iconst hx hb hd rfl (hg _ hq)
  · rename_i u n hd
    simp only [Bool.and_eq_true, decide_eq_true_eq] at ho
    obtain ⟨⟨⟨rfl, hb8⟩, hn⟩, hq⟩ := ho
    obtain rfl := Nat.eq_of_beq_eq_true hn
    refine lv_bipush hx hb hd ?_ (hg _ hq)
    apply Int32.toInt_inj.mp
    rw [Int8.toInt_toInt32, Int8.toInt_ofInt_of_le (by omega) (by omega), i32_to hv]
  · rename_i u n hd
    simp only [Bool.and_eq_true, decide_eq_true_eq] at ho
    obtain ⟨⟨⟨rfl, hb8⟩, hn⟩, hq⟩ := ho
    obtain rfl := Nat.eq_of_beq_eq_true hn
    refine lv_sipush hx hb hd ?_ (hg _ hq)
    apply Int32.toInt_inj.mp
    rw [Int16.toInt_toInt32, Int16.toInt_ofInt_of_le (by omega) (by omega), i32_to hv]
  · rename_i j n hd
    simp only [Bool.and_eq_true] at ho
    obtain ⟨⟨hj, hn⟩, hq⟩ := ho
    obtain rfl := Nat.eq_of_beq_eq_true hn
    exact lv_ldc hx hb hown (hts _ (zKI_ok _ (memI_ok _ hj))) hd (hg _ hq)
  · rename_i j n hd
    simp only [Bool.and_eq_true] at ho
    obtain ⟨⟨hj, hn⟩, hq⟩ := ho
    obtain rfl := Nat.eq_of_beq_eq_true hn
    exact lv_ldcw hx hb hown (hts _ (zKI_ok _ (memI_ok _ hj))) hd (hg _ hq)
  · cases ho
theorem chk_ok {b : Bool} {P : Prop} (h : chk b P) : b = true ∧ P := by
  cases b
  · exact h.elim
  · exact ⟨rfl, h⟩
theorem zcat1 {ad : Nat → Nat} {σ : mM} {v : mV} {w : Value} (h : zval ad σ v w) (ht : ¬ v.1 = 1) : w.category = 1 := by
  rcases lv_cat w with q | q
  · exact q
  · exact absurd ((zcat h).mp q) ht
theorem zKL_rngB : zKL.all (fun t => decide (-9223372036854775808 ≤ t.2.2 ∧ t.2.2 ≤ 9223372036854775807)) = true := by decide +kernel
theorem zKL_rng (t : Nat × Nat × Int) (h : t ∈ zKL) : ok64 t.2.2 := by
  have := List.all_eq_true.mp zKL_rngB t h
  have h2 := of_decide_eq_true this
  exact h2
theorem nb1 {t : Nat} (h : (!Nat.beq t 1) = true) : ¬ t = 1 := by
  intro e
  subst e
  cases h
theorem zc_bipush {v : Int} (hs : (pc, .bipush v) :: k <:+ cd y) (ho : zokI y pc (.bipush v) k = true) (h : sem kn C d y pc (.bipush v) k ls st σ Aq Bq (fun k ls st σ => zReal l D tc A ex σ0 kn d y k ls st σ Aq Bq)) : zReal l D tc A ex σ0 kn d y ((pc, .bipush v) :: k) ls st σ Aq Bq := by

  intro p e R s m args below meth c hc hr ad H locs cells slots lsR stR C0 S0 hC hS hz hlo hle hst Qw qa qb pc' i' k'' he _
  cases he
  have hc0 := hc
  have go := zgo_of (k := k) ((List.suffix_cons _ _).trans hs) hc hr hC hS qa qb
  obtain ⟨hx, hb, hml, hrt, hlk, hown, hts, hK, hE, hnm, hn1, hn2⟩ := hc
  unfold sem at h
  dsimp only at h
  unfold zokI at ho
  dsimp only at ho
  split at ho
  · rename_i u n hd
    simp only [Bool.and_eq_true, decide_eq_true_eq] at ho
    obtain ⟨⟨hu, hn⟩, hq⟩ := ho
    obtain rfl := Nat.eq_of_beq_eq_true hn
    obtain ⟨i2, k2, e2⟩ := nxb_ok hq
    refine lv_lconst hx hb hd rfl (go _ _ _ _ _ _ _ _ _ _ h zLat.rf hz hlo hle (zpl ?_ hst) _ _ _ e2)
    rw [← hu]
    match u with
    | 0 => rfl
    | 1 => rfl
  · rename_i j n hd
    simp only [Bool.and_eq_true] at ho
    obtain ⟨⟨hj, hn⟩, hq⟩ := ho
    obtain rfl := Nat.eq_of_beq_eq_true hn
    obtain ⟨i2, k2, e2⟩ := nxb_ok hq
    refine lv_ldc2 hx hb hown (hts _ (zKL_ok _ (memI_ok _ hj))) hd (go _ _ _ _ _ _ _ _ _ _ h zLat.rf hz hlo hle (zpl ?_ hst) _ _ _ e2)
    exact i64_to (zKL_rng _ (memI_ok _ hj))
  · cases ho
theorem zc_dup (hs : (pc, .dup) :: k <:+ cd y) (ho : zokI y pc (.dup) k = true) (h : sem kn C d y pc (.dup) k ls st σ Aq Bq (fun k ls st σ => zReal l D tc A ex σ0 kn d y k ls st σ Aq Bq)) : zReal l D tc A ex σ0 kn d y ((pc, .dup) :: k) ls st σ Aq Bq := by
  intro p e R s m args below meth c hc hr ad H locs cells slots lsR stR C0 S0 hC hS hz hlo hle hst Qw qa qb pc' i' k'' he _
  cases he
  have hc0 := hc
  have go := zgo_of (k := k) ((List.suffix_cons _ _).trans hs) hc hr hC hS qa qb
  obtain ⟨hx, hb, hml, hrt, hlk, hown, hts, hK, hE, hnm, hn1, hn2⟩ := hc
  obtain ⟨hd, i2, k2, e2⟩ := zdn_ok (show zdn y pc k .dup 1 = true from ho)
  unfold sem at h
  dsimp only at h
  split at h
  · rename_i t v r
    obtain ⟨w, q1, rfl, hw, hst⟩ := zst_c hst
    obtain ⟨ht, h⟩ := chk_ok h
    have hc : w.category = 1 := zcat1 hw (nb1 ht)
    exact lv_dup hx hb hd hc (go _ _ _ _ _ _ _ _ _ _ h zLat.rf hz hlo hle (zpv hw (zpv hw hst)) _ _ _ e2)
  · exact h.elim
theorem zc_pop (hs : (pc, .pop) :: k <:+ cd y) (ho : zokI y pc (.pop) k = true) (h : sem kn C d y pc (.pop) k ls st σ Aq Bq (fun k ls st σ => zReal l D tc A ex σ0 kn d y k ls st σ Aq Bq)) : zReal l D tc A ex σ0 kn d y ((pc, .pop) :: k) ls st σ Aq Bq := by
  intro p e R s m args below meth c hc hr ad H locs cells slots lsR stR C0 S0 hC hS hz hlo hle hst Qw qa qb pc' i' k'' he _
  cases he
  have hc0 := hc
  have go := zgo_of (k := k) ((List.suffix_cons _ _).trans hs) hc hr hC hS qa qb
  obtain ⟨hx, hb, hml, hrt, hlk, hown, hts, hK, hE, hnm, hn1, hn2⟩ := hc
  obtain ⟨hd, i2, k2, e2⟩ := zdn_ok (show zdn y pc k .pop 1 = true from ho)
  unfold sem at h
  dsimp only at h
  split at h
  · rename_i t v r
    obtain ⟨w, q1, rfl, hw, hst⟩ := zst_c hst
    obtain ⟨ht, h⟩ := chk_ok h
    have hc : w.category = 1 := zcat1 hw (nb1 ht)
    exact lv_pop hx hb hd hc (go _ _ _ _ _ _ _ _ _ _ h zLat.rf hz hlo hle hst _ _ _ e2)
  · exact h.elim
theorem zc_dup2 (hs : (pc, .dup2) :: k <:+ cd y) (ho : zokI y pc (.dup2) k = true) (h : sem kn C d y pc (.dup2) k ls st σ Aq Bq (fun k ls st σ => zReal l D tc A ex σ0 kn d y k ls st σ Aq Bq)) : zReal l D tc A ex σ0 kn d y ((pc, .dup2) :: k) ls st σ Aq Bq := by
  intro p e R s m args below meth c hc hr ad H locs cells slots lsR stR C0 S0 hC hS hz hlo hle hst Qw qa qb pc' i' k'' he _
  cases he
  have hc0 := hc
  have go := zgo_of (k := k) ((List.suffix_cons _ _).trans hs) hc hr hC hS qa qb
  obtain ⟨hx, hb, hml, hrt, hlk, hown, hts, hK, hE, hnm, hn1, hn2⟩ := hc
  obtain ⟨hd, i2, k2, e2⟩ := zdn_ok (show zdn y pc k .dup2 1 = true from ho)
  unfold sem at h
  dsimp only at h
  split at h
  · rename_i v r
    obtain ⟨w, q1, rfl, hw, hst⟩ := zst_c hst
    exact lv_dup2_2 hx hb hd ((zcat hw).mpr rfl) (go _ _ _ _ _ _ _ _ _ _ h zLat.rf hz hlo hle (zpv hw (zpv hw hst)) _ _ _ e2)
  · rename_i t v u w r hne
    obtain ⟨w1, q1, rfl, hw1, hst⟩ := zst_c hst
    obtain ⟨w2, q2, rfl, hw2, hst⟩ := zst_c hst
    obtain ⟨ht, h⟩ := chk_ok h
    simp only [Bool.and_eq_true] at ht
    have hc1 : w1.category = 1 := zcat1 hw1 (nb1 ht.1)
    have hc2 : w2.category = 1 := zcat1 hw2 (nb1 ht.2)
    exact lv_dup2_11 hx hb hd hc1 hc2 (go _ _ _ _ _ _ _ _ _ _ h zLat.rf hz hlo hle (zpv hw1 (zpv hw2 (zpv hw1 (zpv hw2 hst)))) _ _ _ e2)
  · exact h.elim
theorem ztg_ok {y : Nat} {t : Int} (h : ztg y t = true) : ∃ (n : Nat) (i : Instr) (k' : mC), t = (n : Int) ∧ jmp y t = (n, i) :: k' := by
  unfold ztg at h
  split at h
  · cases h
  · rename_i q k' hj
    obtain ⟨n, i⟩ := q
    have := of_decide_eq_true h
    exact ⟨n, i, k', this.symm, hj⟩
theorem zbr_ok {y pc : Nat} {off t : Int} (h : zbr y pc off t = true) : ∃ (n : Nat) (i : Instr) (k' : mC), (pc : Int) + off = (n : Int) ∧ jmp y t = (n, i) :: k' := by
  unfold zbr at h
  simp only [Bool.and_eq_true, decide_eq_true_eq] at h
  obtain ⟨n, i, k', e, hj⟩ := ztg_ok h.2
  exact ⟨n, i, k', by rw [h.1, e], hj⟩
theorem toInt0 : (0 : Int32).toInt = 0 := rfl
theorem i32_eq {x y : Int32} : x = y ↔ x.toInt = y.toInt := Int32.toInt_inj.symm
theorem i32_lt {x y : Int32} : x < y ↔ x.toInt < y.toInt := Int32.lt_iff_toInt_lt
theorem i32_le {x y : Int32} : x ≤ y ↔ x.toInt ≤ y.toInt := Int32.le_iff_toInt_le
theorem zc_if_icmp {cn : Jvm.ClassFile.Cond} {t : Int} (hs : (pc, .if_icmp cn t) :: k <:+ cd y) (ho : zokI y pc (.if_icmp cn t) k = true) (h : sem kn C d y pc (.if_icmp cn t) k ls st σ Aq Bq (fun k ls st σ => zReal l D tc A ex σ0 kn d y k ls st σ Aq Bq)) : zReal l D tc A ex σ0 kn d y ((pc, .if_icmp cn t) :: k) ls st σ Aq Bq := by
  intro p e R s m args below meth c hc hr ad H locs cells slots lsR stR C0 S0 hC hS hz hlo hle hst Qw qa qb pc' i' k'' he _
  cases he
  have hc0 := hc
  have go := zgo_of (k := k) ((List.suffix_cons _ _).trans hs) hc hr hC hS qa qb
  obtain ⟨hx, hb, hml, hrt, hlk, hown, hts, hK, hE, hnm, hn1, hn2⟩ := hc
  unfold zokI at ho
  dsimp only at ho
  split at ho
  · rename_i c2 off n hd
    simp only [Bool.and_eq_true, decide_eq_true_eq] at ho
    obtain ⟨⟨⟨rfl, hn⟩, hq⟩, hbr⟩ := ho
    obtain rfl := Nat.eq_of_beq_eq_true hn
    obtain ⟨i2, k2, e2⟩ := nxb_ok hq
    obtain ⟨n3, i3, k3, e3, j3⟩ := zbr_ok hbr
    have goj := zgo_of (k := jmp y t) (jmp_suf y t) hc0 hr hC hS qa qb
    unfold sem at h
    dsimp only at h
    split at h
    · rename_i b a r
      obtain ⟨y1, q1, rfl, ey, hst⟩ := zst_i hst
      obtain ⟨x1, q2, rfl, ex1, hst⟩ := zst_i hst
      cases cn <;> dsimp only [br6] at h
      · exact lv_icmp_eq hx hb hd e3 (fun q => goj _ _ _ _ _ _ _ _ _ _ (h.1 (by rw [← ex1, ← ey]; exact i32_eq.mp q)) zLat.rf hz hlo hle hst _ _ _ j3) (fun q => go _ _ _ _ _ _ _ _ _ _ (h.2 (by rw [← ex1, ← ey]; intro qq; exact q (i32_eq.mpr qq))) zLat.rf hz hlo hle hst _ _ _ e2)
      · exact lv_icmp_ne hx hb hd e3 (fun q => goj _ _ _ _ _ _ _ _ _ _ (h.2 (by rw [← ex1, ← ey]; intro qq; exact q (i32_eq.mpr qq))) zLat.rf hz hlo hle hst _ _ _ j3) (fun q => go _ _ _ _ _ _ _ _ _ _ (h.1 (by rw [← ex1, ← ey]; exact i32_eq.mp q)) zLat.rf hz hlo hle hst _ _ _ e2)
      · exact lv_icmp_lt hx hb hd e3 (fun q => goj _ _ _ _ _ _ _ _ _ _ (h.1 (by rw [← ex1, ← ey]; exact i32_lt.mp q)) zLat.rf hz hlo hle hst _ _ _ j3) (fun q => go _ _ _ _ _ _ _ _ _ _ (h.2 (by have q0 : ¬ (x1.toInt < y1.toInt) := fun qq => q (i32_lt.mpr qq); rw [← ex1, ← ey]; omega)) zLat.rf hz hlo hle hst _ _ _ e2)
      · exact lv_icmp_ge hx hb hd e3 (fun q => goj _ _ _ _ _ _ _ _ _ _ (h.1 (by rw [← ex1, ← ey]; exact i32_le.mp q)) zLat.rf hz hlo hle hst _ _ _ j3) (fun q => go _ _ _ _ _ _ _ _ _ _ (h.2 (by have q0 : ¬ (y1.toInt ≤ x1.toInt) := fun qq => q (i32_le.mpr qq); rw [← ex1, ← ey]; omega)) zLat.rf hz hlo hle hst _ _ _ e2)
      · exact lv_icmp_gt hx hb hd e3 (fun q => goj _ _ _ _ _ _ _ _ _ _ (h.1 (by rw [← ex1, ← ey]; exact i32_lt.mp q)) zLat.rf hz hlo hle hst _ _ _ j3) (fun q => go _ _ _ _ _ _ _ _ _ _ (h.2 (by have q0 : ¬ (y1.toInt < x1.toInt) := fun qq => q (i32_lt.mpr qq); rw [← ex1, ← ey]; omega)) zLat.rf hz hlo hle hst _ _ _ e2)
      · exact lv_icmp_le hx hb hd e3 (fun q => goj _ _ _ _ _ _ _ _ _ _ (h.1 (by rw [← ex1, ← ey]; exact i32_le.mp q)) zLat.rf hz hlo hle hst _ _ _ j3) (fun q => go _ _ _ _ _ _ _ _ _ _ (h.2 (by have q0 : ¬ (x1.toInt ≤ y1.toInt) := fun qq => q (i32_le.mpr qq); rw [← ex1, ← ey]; omega)) zLat.rf hz hlo hle hst _ _ _ e2)
    · exact h.elim
  · cases ho
theorem zc_ifCond {cn : Jvm.ClassFile.Cond} {t : Int} (hs : (pc, .ifCond cn t) :: k <:+ cd y) (ho : zokI y pc (.ifCond cn t) k = true) (h : sem kn C d y pc (.ifCond cn t) k ls st σ Aq Bq (fun k ls st σ => zReal l D tc A ex σ0 kn d y k ls st σ Aq Bq)) : zReal l D tc A ex σ0 kn d y ((pc, .ifCond cn t) :: k) ls st σ Aq Bq := by
  intro p e R s m args below meth c hc hr ad H locs cells slots lsR stR C0 S0 hC hS hz hlo hle hst Qw qa qb pc' i' k'' he _
  cases he
  have hc0 := hc
  have go := zgo_of (k := k) ((List.suffix_cons _ _).trans hs) hc hr hC hS qa qb
  obtain ⟨hx, hb, hml, hrt, hlk, hown, hts, hK, hE, hnm, hn1, hn2⟩ := hc
  unfold zokI at ho
  dsimp only at ho
  split at ho
  · rename_i c2 off n hd
    simp only [Bool.and_eq_true, decide_eq_true_eq] at ho
    obtain ⟨⟨⟨rfl, hn⟩, hq⟩, hbr⟩ := ho
    obtain rfl := Nat.eq_of_beq_eq_true hn
    obtain ⟨i2, k2, e2⟩ := nxb_ok hq
    obtain ⟨n3, i3, k3, e3, j3⟩ := zbr_ok hbr
    have goj := zgo_of (k := jmp y t) (jmp_suf y t) hc0 hr hC hS qa qb
    unfold sem at h
    dsimp only at h
    split at h
    · rename_i z r
      obtain ⟨x1, q2, rfl, ex1, hst⟩ := zst_i hst
      cases cn <;> dsimp only [br6] at h
      · exact lv_if_eq hx hb hd e3 (fun q => goj _ _ _ _ _ _ _ _ _ _ (h.1 (by rw [← ex1]; have := i32_eq.mp q; simpa using this)) zLat.rf hz hlo hle hst _ _ _ j3) (fun q => go _ _ _ _ _ _ _ _ _ _ (h.2 (by rw [← ex1]; intro qq; exact q (i32_eq.mpr (by simpa using qq)))) zLat.rf hz hlo hle hst _ _ _ e2)
      · exact lv_if_ne hx hb hd e3 (fun q => goj _ _ _ _ _ _ _ _ _ _ (h.2 (by rw [← ex1]; intro qq; exact q (i32_eq.mpr (by simpa using qq)))) zLat.rf hz hlo hle hst _ _ _ j3) (fun q => go _ _ _ _ _ _ _ _ _ _ (h.1 (by rw [← ex1]; have := i32_eq.mp q; simpa using this)) zLat.rf hz hlo hle hst _ _ _ e2)
      · exact lv_if_lt hx hb hd e3 (fun q => goj _ _ _ _ _ _ _ _ _ _ (h.1 (by rw [← ex1]; have := i32_lt.mp q; simpa using this)) zLat.rf hz hlo hle hst _ _ _ j3) (fun q => go _ _ _ _ _ _ _ _ _ _ (h.2 (by have q0 : ¬ (x1.toInt < (0 : Int32).toInt) := fun qq => q (i32_lt.mpr qq); rw [← ex1]; rw [toInt0] at q0; omega)) zLat.rf hz hlo hle hst _ _ _ e2)
      · exact lv_if_ge hx hb hd e3 (fun q => goj _ _ _ _ _ _ _ _ _ _ (h.1 (by rw [← ex1]; have := i32_le.mp q; simpa using this)) zLat.rf hz hlo hle hst _ _ _ j3) (fun q => go _ _ _ _ _ _ _ _ _ _ (h.2 (by have q0 : ¬ ((0 : Int32).toInt ≤ x1.toInt) := fun qq => q (i32_le.mpr qq); rw [← ex1]; rw [toInt0] at q0; omega)) zLat.rf hz hlo hle hst _ _ _ e2)
      · exact lv_if_gt hx hb hd e3 (fun q => goj _ _ _ _ _ _ _ _ _ _ (h.1 (by rw [← ex1]; have := i32_lt.mp q; simpa using this)) zLat.rf hz hlo hle hst _ _ _ j3) (fun q => go _ _ _ _ _ _ _ _ _ _ (h.2 (by have q0 : ¬ ((0 : Int32).toInt < x1.toInt) := fun qq => q (i32_lt.mpr qq); rw [← ex1]; rw [toInt0] at q0; omega)) zLat.rf hz hlo hle hst _ _ _ e2)
      · exact lv_if_le hx hb hd e3 (fun q => goj _ _ _ _ _ _ _ _ _ _ (h.1 (by rw [← ex1]; have := i32_le.mp q; simpa using this)) zLat.rf hz hlo hle hst _ _ _ j3) (fun q => go _ _ _ _ _ _ _ _ _ _ (h.2 (by have q0 : ¬ (x1.toInt ≤ (0 : Int32).toInt) := fun qq => q (i32_le.mpr qq); rw [← ex1]; rw [toInt0] at q0; omega)) zLat.rf hz hlo hle hst _ _ _ e2)
    · exact h.elim
  · cases ho
theorem zc_goto {t : Int} (hs : (pc, .goto t) :: k <:+ cd y) (ho : zokI y pc (.goto t) k = true) (h : sem kn C d y pc (.goto t) k ls st σ Aq Bq (fun k ls st σ => zReal l D tc A ex σ0 kn d y k ls st σ Aq Bq)) : zReal l D tc A ex σ0 kn d y ((pc, .goto t) :: k) ls st σ Aq Bq := by
  intro p e R s m args below meth c hc hr ad H locs cells slots lsR stR C0 S0 hC hS hz hlo hle hst Qw qa qb pc' i' k'' he _
  cases he
  have hc0 := hc
  have go := zgo_of (k := k) ((List.suffix_cons _ _).trans hs) hc hr hC hS qa qb
  obtain ⟨hx, hb, hml, hrt, hlk, hown, hts, hK, hE, hnm, hn1, hn2⟩ := hc
  unfold zokI at ho
  dsimp only at ho
  split at ho
  · rename_i off n hd
    simp only [Bool.and_eq_true] at ho
    obtain ⟨hn, hbr⟩ := ho
    obtain rfl := Nat.eq_of_beq_eq_true hn
    obtain ⟨n3, i3, k3, e3, j3⟩ := zbr_ok hbr
    have goj := zgo_of (k := jmp y t) (jmp_suf y t) hc0 hr hC hS qa qb
    unfold sem at h
    dsimp only at h
    exact lv_goto hx hb hd e3 (goj _ _ _ _ _ _ _ _ _ _ h zLat.rf hz hlo hle hst _ _ _ j3)
  · cases ho
end ZD
