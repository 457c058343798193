/-! THE SIMULATION: instructions on locals and the stack; printed by tools/gensimc.py -/
set_option maxRecDepth 100000
set_option maxHeartbeats 4000000
section ZC
variable {l : Launch} {D : va_G} {tc : Nat → ClassId} {A : Nat → Prop} {ex : Nat → Nat} {σ0 : mM} {kn : Nat → Nat → Option Int}
variable {d y : Nat} {k : mC} {ls st : List mV} {σ : mM} {Aq : mA} {Bq : mB} {pc : Nat} {C : zC}
theorem zst_i {ad : Nat → Nat} {σ : mM} {z : Int} {r : List mV} {q : List Value} (h : zst ad σ ((0, z) :: r) q) : ∃ (x : Int32) (q' : List Value), q = .int x :: q' ∧ x.toInt = z ∧ zst ad σ r q' := by
  cases q with
  | nil => exact h.elim
  | cons w q => obtain ⟨⟨x, rfl, hx⟩, h2⟩ := h; exact ⟨x, q, rfl, hx, h2⟩
theorem zst_l {ad : Nat → Nat} {σ : mM} {z : Int} {r : List mV} {q : List Value} (h : zst ad σ ((1, z) :: r) q) : ∃ (x : Int64) (q' : List Value), q = .long x :: q' ∧ x.toInt = z ∧ zst ad σ r q' := by
  cases q with
  | nil => exact h.elim
  | cons w q => obtain ⟨⟨x, rfl, hx⟩, h2⟩ := h; exact ⟨x, q, rfl, hx, h2⟩
theorem zst_c {ad : Nat → Nat} {σ : mM} {v : mV} {r : List mV} {q : List Value} (h : zst ad σ (v :: r) q) : ∃ (w : Value) (q' : List Value), q = w :: q' ∧ zval ad σ v w ∧ zst ad σ r q' := by
  cases q with
  | nil => exact h.elim
  | cons w q => exact ⟨w, q, rfl, h.1, h.2⟩
theorem zpi {ad : Nat → Nat} {σ : mM} {z : Int} {r : List mV} {q : List Value} {x : Int32} (h : x.toInt = z) (hr : zst ad σ r q) : zst ad σ ((0, z) :: r) (.int x :: q) := ⟨⟨x, rfl, h⟩, hr⟩
theorem zpl {ad : Nat → Nat} {σ : mM} {z : Int} {r : List mV} {q : List Value} {x : Int64} (h : x.toInt = z) (hr : zst ad σ r q) : zst ad σ ((1, z) :: r) (.long x :: q) := ⟨⟨x, rfl, h⟩, hr⟩
theorem zpv {ad : Nat → Nat} {σ : mM} {v : mV} {w : Value} {r : List mV} {q : List Value} (h : zval ad σ v w) (hr : zst ad σ r q) : zst ad σ (v :: r) (w :: q) := ⟨h, hr⟩
theorem bm32 {z : Int} (h : ok32 z) : z.bmod (2 ^ 32) = z := by
  unfold ok32 at h
  rw [Int.bmod_def]
  omega
theorem bw32 (z : Int) : z.bmod (2 ^ 32) = w32 z := by
  unfold w32
  rw [Int.bmod_def]
  omega
theorem bm64 {z : Int} (h : ok64 z) : z.bmod (2 ^ 64) = z := by
  unfold ok64 at h
  rw [Int.bmod_def]
  omega
theorem zc_iadd (hs : (pc, .iadd) :: k <:+ cd y) (ho : zokI y pc (.iadd) k = true) (h : sem kn C d y pc (.iadd) k ls st σ Aq Bq (fun k ls st σ => zReal l D tc A ex σ0 kn d y k ls st σ Aq Bq)) : zReal l D tc A ex σ0 kn d y ((pc, .iadd) :: k) ls st σ Aq Bq := by
  intro p e R s m args below meth c hc hr ad H locs cells slots lsR stR C0 S0 hC hS hz hlo hle hst Qw qa qb pc' i' k'' he _
  cases he
  have go := zgo_of (k := k) ((List.suffix_cons _ _).trans hs) hc hr hC hS qa qb
  obtain ⟨hx, hb, hml, hrt, hlk, hown, hts, hK, hE, hnm, hn1, hn2⟩ := hc
  obtain ⟨hd, i2, k2, e2⟩ := zdn_ok (show zdn y pc k .iadd 1 = true from ho)
  unfold sem at h
  dsimp only at h
  split at h
  · rename_i b a r
    obtain ⟨y1, q1, rfl, ey, hst⟩ := zst_i hst
    obtain ⟨x1, q2, rfl, ex1, hst⟩ := zst_i hst
    refine lv_iadd hx hb hd (go _ _ _ _ _ _ _ _ _ _ h.2 zLat.rf hz hlo hle (zpi ?_ hst) _ _ _ e2)
    rw [Int32.toInt_add, ex1, ey]; exact bm32 h.1
  · exact h.elim
theorem zc_isub (hs : (pc, .isub) :: k <:+ cd y) (ho : zokI y pc (.isub) k = true) (h : sem kn C d y pc (.isub) k ls st σ Aq Bq (fun k ls st σ => zReal l D tc A ex σ0 kn d y k ls st σ Aq Bq)) : zReal l D tc A ex σ0 kn d y ((pc, .isub) :: k) ls st σ Aq Bq := by
  intro p e R s m args below meth c hc hr ad H locs cells slots lsR stR C0 S0 hC hS hz hlo hle hst Qw qa qb pc' i' k'' he _
  cases he
  have go := zgo_of (k := k) ((List.suffix_cons _ _).trans hs) hc hr hC hS qa qb
  obtain ⟨hx, hb, hml, hrt, hlk, hown, hts, hK, hE, hnm, hn1, hn2⟩ := hc
  obtain ⟨hd, i2, k2, e2⟩ := zdn_ok (show zdn y pc k .isub 1 = true from ho)
  unfold sem at h
  dsimp only at h
  split at h
  · rename_i b a r
    obtain ⟨y1, q1, rfl, ey, hst⟩ := zst_i hst
    obtain ⟨x1, q2, rfl, ex1, hst⟩ := zst_i hst
    refine lv_isub hx hb hd (go _ _ _ _ _ _ _ _ _ _ h.2 zLat.rf hz hlo hle (zpi ?_ hst) _ _ _ e2)
    rw [Int32.toInt_sub, ex1, ey]; exact bm32 h.1
  · exact h.elim
theorem zc_imul (hs : (pc, .imul) :: k <:+ cd y) (ho : zokI y pc (.imul) k = true) (h : sem kn C d y pc (.imul) k ls st σ Aq Bq (fun k ls st σ => zReal l D tc A ex σ0 kn d y k ls st σ Aq Bq)) : zReal l D tc A ex σ0 kn d y ((pc, .imul) :: k) ls st σ Aq Bq := by
  intro p e R s m args below meth c hc hr ad H locs cells slots lsR stR C0 S0 hC hS hz hlo hle hst Qw qa qb pc' i' k'' he _
  cases he
  have go := zgo_of (k := k) ((List.suffix_cons _ _).trans hs) hc hr hC hS qa qb
  obtain ⟨hx, hb, hml, hrt, hlk, hown, hts, hK, hE, hnm, hn1, hn2⟩ := hc
  obtain ⟨hd, i2, k2, e2⟩ := zdn_ok (show zdn y pc k .imul 1 = true from ho)
  unfold sem at h
  dsimp only at h
  split at h
  · rename_i b a r
    obtain ⟨y1, q1, rfl, ey, hst⟩ := zst_i hst
    obtain ⟨x1, q2, rfl, ex1, hst⟩ := zst_i hst
    refine lv_imul hx hb hd (go _ _ _ _ _ _ _ _ _ _ h.2 zLat.rf hz hlo hle (zpi ?_ hst) _ _ _ e2)
    rw [Int32.toInt_mul, ex1, ey]; exact bm32 h.1
  · exact h.elim
theorem zc_dadd (hs : (pc, .dadd) :: k <:+ cd y) (ho : zokI y pc (.dadd) k = true) (h : sem kn C d y pc (.dadd) k ls st σ Aq Bq (fun k ls st σ => zReal l D tc A ex σ0 kn d y k ls st σ Aq Bq)) : zReal l D tc A ex σ0 kn d y ((pc, .dadd) :: k) ls st σ Aq Bq := by
  intro p e R s m args below meth c hc hr ad H locs cells slots lsR stR C0 S0 hC hS hz hlo hle hst Qw qa qb pc' i' k'' he _
  cases he
  have go := zgo_of (k := k) ((List.suffix_cons _ _).trans hs) hc hr hC hS qa qb
  obtain ⟨hx, hb, hml, hrt, hlk, hown, hts, hK, hE, hnm, hn1, hn2⟩ := hc
  obtain ⟨hd, i2, k2, e2⟩ := zdn_ok (show zdn y pc k .iadd 1 = true from ho)
  unfold sem at h
  dsimp only at h
  split at h
  · rename_i b a r
    obtain ⟨y1, q1, rfl, ey, hst⟩ := zst_i hst
    obtain ⟨x1, q2, rfl, ex1, hst⟩ := zst_i hst
    refine lv_iadd hx hb hd (go _ _ _ _ _ _ _ _ _ _ h zLat.rf hz hlo hle (zpi ?_ hst) _ _ _ e2)
    rw [Int32.toInt_add, ex1, ey]; exact bw32 _
  · exact h.elim
theorem zc_dsub (hs : (pc, .dsub) :: k <:+ cd y) (ho : zokI y pc (.dsub) k = true) (h : sem kn C d y pc (.dsub) k ls st σ Aq Bq (fun k ls st σ => zReal l D tc A ex σ0 kn d y k ls st σ Aq Bq)) : zReal l D tc A ex σ0 kn d y ((pc, .dsub) :: k) ls st σ Aq Bq := by
  intro p e R s m args below meth c hc hr ad H locs cells slots lsR stR C0 S0 hC hS hz hlo hle hst Qw qa qb pc' i' k'' he _
  cases he
  have go := zgo_of (k := k) ((List.suffix_cons _ _).trans hs) hc hr hC hS qa qb
  obtain ⟨hx, hb, hml, hrt, hlk, hown, hts, hK, hE, hnm, hn1, hn2⟩ := hc
  obtain ⟨hd, i2, k2, e2⟩ := zdn_ok (show zdn y pc k .isub 1 = true from ho)
  unfold sem at h
  dsimp only at h
  split at h
  · rename_i b a r
    obtain ⟨y1, q1, rfl, ey, hst⟩ := zst_i hst
    obtain ⟨x1, q2, rfl, ex1, hst⟩ := zst_i hst
    refine lv_isub hx hb hd (go _ _ _ _ _ _ _ _ _ _ h zLat.rf hz hlo hle (zpi ?_ hst) _ _ _ e2)
    rw [Int32.toInt_sub, ex1, ey]; exact bw32 _
  · exact h.elim
theorem zc_dmul (hs : (pc, .dmul) :: k <:+ cd y) (ho : zokI y pc (.dmul) k = true) (h : sem kn C d y pc (.dmul) k ls st σ Aq Bq (fun k ls st σ => zReal l D tc A ex σ0 kn d y k ls st σ Aq Bq)) : zReal l D tc A ex σ0 kn d y ((pc, .dmul) :: k) ls st σ Aq Bq := by
  intro p e R s m args below meth c hc hr ad H locs cells slots lsR stR C0 S0 hC hS hz hlo hle hst Qw qa qb pc' i' k'' he _
  cases he
  have go := zgo_of (k := k) ((List.suffix_cons _ _).trans hs) hc hr hC hS qa qb
  obtain ⟨hx, hb, hml, hrt, hlk, hown, hts, hK, hE, hnm, hn1, hn2⟩ := hc
  obtain ⟨hd, i2, k2, e2⟩ := zdn_ok (show zdn y pc k .imul 1 = true from ho)
  unfold sem at h
  dsimp only at h
  split at h
  · rename_i b a r
    obtain ⟨y1, q1, rfl, ey, hst⟩ := zst_i hst
    obtain ⟨x1, q2, rfl, ex1, hst⟩ := zst_i hst
    refine lv_imul hx hb hd (go _ _ _ _ _ _ _ _ _ _ h zLat.rf hz hlo hle (zpi ?_ hst) _ _ _ e2)
    rw [Int32.toInt_mul, ex1, ey]; exact bw32 _
  · exact h.elim
theorem zc_ladd (hs : (pc, .ladd) :: k <:+ cd y) (ho : zokI y pc (.ladd) k = true) (h : sem kn C d y pc (.ladd) k ls st σ Aq Bq (fun k ls st σ => zReal l D tc A ex σ0 kn d y k ls st σ Aq Bq)) : zReal l D tc A ex σ0 kn d y ((pc, .ladd) :: k) ls st σ Aq Bq := by
  intro p e R s m args below meth c hc hr ad H locs cells slots lsR stR C0 S0 hC hS hz hlo hle hst Qw qa qb pc' i' k'' he _
  cases he
  have go := zgo_of (k := k) ((List.suffix_cons _ _).trans hs) hc hr hC hS qa qb
  obtain ⟨hx, hb, hml, hrt, hlk, hown, hts, hK, hE, hnm, hn1, hn2⟩ := hc
  obtain ⟨hd, i2, k2, e2⟩ := zdn_ok (show zdn y pc k .ladd 1 = true from ho)
  unfold sem at h
  dsimp only at h
  split at h
  · rename_i b a r
    obtain ⟨y1, q1, rfl, ey, hst⟩ := zst_l hst
    obtain ⟨x1, q2, rfl, ex1, hst⟩ := zst_l hst
    refine lv_ladd hx hb hd (go _ _ _ _ _ _ _ _ _ _ h.2 zLat.rf hz hlo hle (zpl ?_ hst) _ _ _ e2)
    rw [Int64.toInt_add, ex1, ey]; exact bm64 h.1
  · exact h.elim
theorem zc_lsub (hs : (pc, .lsub) :: k <:+ cd y) (ho : zokI y pc (.lsub) k = true) (h : sem kn C d y pc (.lsub) k ls st σ Aq Bq (fun k ls st σ => zReal l D tc A ex σ0 kn d y k ls st σ Aq Bq)) : zReal l D tc A ex σ0 kn d y ((pc, .lsub) :: k) ls st σ Aq Bq := by
  intro p e R s m args below meth c hc hr ad H locs cells slots lsR stR C0 S0 hC hS hz hlo hle hst Qw qa qb pc' i' k'' he _
  cases he
  have go := zgo_of (k := k) ((List.suffix_cons _ _).trans hs) hc hr hC hS qa qb
  obtain ⟨hx, hb, hml, hrt, hlk, hown, hts, hK, hE, hnm, hn1, hn2⟩ := hc
  obtain ⟨hd, i2, k2, e2⟩ := zdn_ok (show zdn y pc k .lsub 1 = true from ho)
  unfold sem at h
  dsimp only at h
  split at h
  · rename_i b a r
    obtain ⟨y1, q1, rfl, ey, hst⟩ := zst_l hst
    obtain ⟨x1, q2, rfl, ex1, hst⟩ := zst_l hst
    refine lv_lsub hx hb hd (go _ _ _ _ _ _ _ _ _ _ h.2 zLat.rf hz hlo hle (zpl ?_ hst) _ _ _ e2)
    rw [Int64.toInt_sub, ex1, ey]; exact bm64 h.1
  · exact h.elim
theorem zc_lmul (hs : (pc, .lmul) :: k <:+ cd y) (ho : zokI y pc (.lmul) k = true) (h : sem kn C d y pc (.lmul) k ls st σ Aq Bq (fun k ls st σ => zReal l D tc A ex σ0 kn d y k ls st σ Aq Bq)) : zReal l D tc A ex σ0 kn d y ((pc, .lmul) :: k) ls st σ Aq Bq := by
  intro p e R s m args below meth c hc hr ad H locs cells slots lsR stR C0 S0 hC hS hz hlo hle hst Qw qa qb pc' i' k'' he _
  cases he
  have go := zgo_of (k := k) ((List.suffix_cons _ _).trans hs) hc hr hC hS qa qb
  obtain ⟨hx, hb, hml, hrt, hlk, hown, hts, hK, hE, hnm, hn1, hn2⟩ := hc
  obtain ⟨hd, i2, k2, e2⟩ := zdn_ok (show zdn y pc k .lmul 1 = true from ho)
  unfold sem at h
  dsimp only at h
  split at h
  · rename_i b a r
    obtain ⟨y1, q1, rfl, ey, hst⟩ := zst_l hst
    obtain ⟨x1, q2, rfl, ex1, hst⟩ := zst_l hst
    refine lv_lmul hx hb hd (go _ _ _ _ _ _ _ _ _ _ h.2 zLat.rf hz hlo hle (zpl ?_ hst) _ _ _ e2)
    rw [Int64.toInt_mul, ex1, ey]; exact bm64 h.1
  · exact h.elim
theorem zc_iand (hs : (pc, .iand) :: k <:+ cd y) (ho : zokI y pc (.iand) k = true) (h : sem kn C d y pc (.iand) k ls st σ Aq Bq (fun k ls st σ => zReal l D tc A ex σ0 kn d y k ls st σ Aq Bq)) : zReal l D tc A ex σ0 kn d y ((pc, .iand) :: k) ls st σ Aq Bq := by
  intro p e R s m args below meth c hc hr ad H locs cells slots lsR stR C0 S0 hC hS hz hlo hle hst Qw qa qb pc' i' k'' he _
  cases he
  have go := zgo_of (k := k) ((List.suffix_cons _ _).trans hs) hc hr hC hS qa qb
  obtain ⟨hx, hb, hml, hrt, hlk, hown, hts, hK, hE, hnm, hn1, hn2⟩ := hc
  obtain ⟨hd, i2, k2, e2⟩ := zdn_ok (show zdn y pc k .iand 1 = true from ho)
  unfold sem at h
  dsimp only at h
  split at h
  · rename_i b a r
    obtain ⟨y1, q1, rfl, ey, hst⟩ := zst_i hst
    obtain ⟨x1, q2, rfl, ex1, hst⟩ := zst_i hst
    refine lv_iand hx hb hd (go _ _ _ _ _ _ _ _ _ _ h zLat.rf hz hlo hle (zpi ?_ hst) _ _ _ e2)
    rw [← ex1, ← ey]; simp only [and32, i32_of]
  · exact h.elim
theorem zc_ior (hs : (pc, .ior) :: k <:+ cd y) (ho : zokI y pc (.ior) k = true) (h : sem kn C d y pc (.ior) k ls st σ Aq Bq (fun k ls st σ => zReal l D tc A ex σ0 kn d y k ls st σ Aq Bq)) : zReal l D tc A ex σ0 kn d y ((pc, .ior) :: k) ls st σ Aq Bq := by
  intro p e R s m args below meth c hc hr ad H locs cells slots lsR stR C0 S0 hC hS hz hlo hle hst Qw qa qb pc' i' k'' he _
  cases he
  have go := zgo_of (k := k) ((List.suffix_cons _ _).trans hs) hc hr hC hS qa qb
  obtain ⟨hx, hb, hml, hrt, hlk, hown, hts, hK, hE, hnm, hn1, hn2⟩ := hc
  obtain ⟨hd, i2, k2, e2⟩ := zdn_ok (show zdn y pc k .ior 1 = true from ho)
  unfold sem at h
  dsimp only at h
  split at h
  · rename_i b a r
    obtain ⟨y1, q1, rfl, ey, hst⟩ := zst_i hst
    obtain ⟨x1, q2, rfl, ex1, hst⟩ := zst_i hst
    refine lv_ior hx hb hd (go _ _ _ _ _ _ _ _ _ _ h zLat.rf hz hlo hle (zpi ?_ hst) _ _ _ e2)
    rw [← ex1, ← ey]; simp only [or32, i32_of]
  · exact h.elim
theorem zc_ixor (hs : (pc, .ixor) :: k <:+ cd y) (ho : zokI y pc (.ixor) k = true) (h : sem kn C d y pc (.ixor) k ls st σ Aq Bq (fun k ls st σ => zReal l D tc A ex σ0 kn d y k ls st σ Aq Bq)) : zReal l D tc A ex σ0 kn d y ((pc, .ixor) :: k) ls st σ Aq Bq := by
  intro p e R s m args below meth c hc hr ad H locs cells slots lsR stR C0 S0 hC hS hz hlo hle hst Qw qa qb pc' i' k'' he _
  cases he
  have go := zgo_of (k := k) ((List.suffix_cons _ _).trans hs) hc hr hC hS qa qb
  obtain ⟨hx, hb, hml, hrt, hlk, hown, hts, hK, hE, hnm, hn1, hn2⟩ := hc
  obtain ⟨hd, i2, k2, e2⟩ := zdn_ok (show zdn y pc k .ixor 1 = true from ho)
  unfold sem at h
  dsimp only at h
  split at h
  · rename_i b a r
    obtain ⟨y1, q1, rfl, ey, hst⟩ := zst_i hst
    obtain ⟨x1, q2, rfl, ex1, hst⟩ := zst_i hst
    refine lv_ixor hx hb hd (go _ _ _ _ _ _ _ _ _ _ h zLat.rf hz hlo hle (zpi ?_ hst) _ _ _ e2)
    rw [← ex1, ← ey]; simp only [xor32, i32_of]
  · exact h.elim
theorem zc_ishl (hs : (pc, .ishl) :: k <:+ cd y) (ho : zokI y pc (.ishl) k = true) (h : sem kn C d y pc (.ishl) k ls st σ Aq Bq (fun k ls st σ => zReal l D tc A ex σ0 kn d y k ls st σ Aq Bq)) : zReal l D tc A ex σ0 kn d y ((pc, .ishl) :: k) ls st σ Aq Bq := by
  intro p e R s m args below meth c hc hr ad H locs cells slots lsR stR C0 S0 hC hS hz hlo hle hst Qw qa qb pc' i' k'' he _
  cases he
  have go := zgo_of (k := k) ((List.suffix_cons _ _).trans hs) hc hr hC hS qa qb
  obtain ⟨hx, hb, hml, hrt, hlk, hown, hts, hK, hE, hnm, hn1, hn2⟩ := hc
  obtain ⟨hd, i2, k2, e2⟩ := zdn_ok (show zdn y pc k .ishl 1 = true from ho)
  unfold sem at h
  dsimp only at h
  split at h
  · rename_i b a r
    obtain ⟨y1, q1, rfl, ey, hst⟩ := zst_i hst
    obtain ⟨x1, q2, rfl, ex1, hst⟩ := zst_i hst
    refine lv_ishl hx hb hd (go _ _ _ _ _ _ _ _ _ _ h zLat.rf hz hlo hle (zpi ?_ hst) _ _ _ e2)
    rw [← ex1, ← ey]; simp only [shl32, i32_of]
  · exact h.elim
theorem zc_ishr (hs : (pc, .ishr) :: k <:+ cd y) (ho : zokI y pc (.ishr) k = true) (h : sem kn C d y pc (.ishr) k ls st σ Aq Bq (fun k ls st σ => zReal l D tc A ex σ0 kn d y k ls st σ Aq Bq)) : zReal l D tc A ex σ0 kn d y ((pc, .ishr) :: k) ls st σ Aq Bq := by
  intro p e R s m args below meth c hc hr ad H locs cells slots lsR stR C0 S0 hC hS hz hlo hle hst Qw qa qb pc' i' k'' he _
  cases he
  have go := zgo_of (k := k) ((List.suffix_cons _ _).trans hs) hc hr hC hS qa qb
  obtain ⟨hx, hb, hml, hrt, hlk, hown, hts, hK, hE, hnm, hn1, hn2⟩ := hc
  obtain ⟨hd, i2, k2, e2⟩ := zdn_ok (show zdn y pc k .ishr 1 = true from ho)
  unfold sem at h
  dsimp only at h
  split at h
  · rename_i b a r
    obtain ⟨y1, q1, rfl, ey, hst⟩ := zst_i hst
    obtain ⟨x1, q2, rfl, ex1, hst⟩ := zst_i hst
    refine lv_ishr hx hb hd (go _ _ _ _ _ _ _ _ _ _ h zLat.rf hz hlo hle (zpi ?_ hst) _ _ _ e2)
    rw [← ex1, ← ey]; simp only [shr32, i32_of]
  · exact h.elim
theorem zc_land (hs : (pc, .land) :: k <:+ cd y) (ho : zokI y pc (.land) k = true) (h : sem kn C d y pc (.land) k ls st σ Aq Bq (fun k ls st σ => zReal l D tc A ex σ0 kn d y k ls st σ Aq Bq)) : zReal l D tc A ex σ0 kn d y ((pc, .land) :: k) ls st σ Aq Bq := by
  intro p e R s m args below meth c hc hr ad H locs cells slots lsR stR C0 S0 hC hS hz hlo hle hst Qw qa qb pc' i' k'' he _
  cases he
  have go := zgo_of (k := k) ((List.suffix_cons _ _).trans hs) hc hr hC hS qa qb
  obtain ⟨hx, hb, hml, hrt, hlk, hown, hts, hK, hE, hnm, hn1, hn2⟩ := hc
  obtain ⟨hd, i2, k2, e2⟩ := zdn_ok (show zdn y pc k .land 1 = true from ho)
  unfold sem at h
  dsimp only at h
  split at h
  · rename_i b a r
    obtain ⟨y1, q1, rfl, ey, hst⟩ := zst_l hst
    obtain ⟨x1, q2, rfl, ex1, hst⟩ := zst_l hst
    refine lv_land hx hb hd (go _ _ _ _ _ _ _ _ _ _ h zLat.rf hz hlo hle (zpl ?_ hst) _ _ _ e2)
    rw [← ex1, ← ey]; simp only [and64, i64_of]
  · exact h.elim
theorem zc_lor (hs : (pc, .lor) :: k <:+ cd y) (ho : zokI y pc (.lor) k = true) (h : sem kn C d y pc (.lor) k ls st σ Aq Bq (fun k ls st σ => zReal l D tc A ex σ0 kn d y k ls st σ Aq Bq)) : zReal l D tc A ex σ0 kn d y ((pc, .lor) :: k) ls st σ Aq Bq := by
  intro p e R s m args below meth c hc hr ad H locs cells slots lsR stR C0 S0 hC hS hz hlo hle hst Qw qa qb pc' i' k'' he _
  cases he
  have go := zgo_of (k := k) ((List.suffix_cons _ _).trans hs) hc hr hC hS qa qb
  obtain ⟨hx, hb, hml, hrt, hlk, hown, hts, hK, hE, hnm, hn1, hn2⟩ := hc
  obtain ⟨hd, i2, k2, e2⟩ := zdn_ok (show zdn y pc k .lor 1 = true from ho)
  unfold sem at h
  dsimp only at h
  split at h
  · rename_i b a r
    obtain ⟨y1, q1, rfl, ey, hst⟩ := zst_l hst
    obtain ⟨x1, q2, rfl, ex1, hst⟩ := zst_l hst
    refine lv_lor hx hb hd (go _ _ _ _ _ _ _ _ _ _ h zLat.rf hz hlo hle (zpl ?_ hst) _ _ _ e2)
    rw [← ex1, ← ey]; simp only [or64, i64_of]
  · exact h.elim
theorem tdiv_in (a b : Int) (hb : 0 < b) : (0 ≤ a → 0 ≤ a.tdiv b ∧ a.tdiv b ≤ a) ∧ (a < 0 → a ≤ a.tdiv b ∧ a.tdiv b ≤ 0) := by
  constructor
  · intro h
    rw [Int.tdiv_eq_ediv_of_nonneg h]
    exact ⟨Int.ediv_nonneg h (Int.le_of_lt hb), Int.ediv_le_self _ h⟩
  · intro h
    have e1 : a.tdiv b = -((-a) / b) := by
      have : a = -(-a) := by omega
      rw [this, Int.neg_tdiv, Int.tdiv_eq_ediv_of_nonneg (by omega)]
      simp
    rw [e1]
    have h1 := Int.ediv_nonneg (a := -a) (b := b) (by omega) (Int.le_of_lt hb)
    have h2 := Int.ediv_le_self (a := -a) b (by omega)
    omega
theorem tdiv_ok32 {a b : Int} (ha : ok32 a) (hb : 0 < b) : ok32 (a.tdiv b) := by
  have h := tdiv_in a b hb
  unfold ok32 at ha ⊢
  rcases Int.lt_or_le a 0 with q | q
  · have := h.2 q; omega
  · have := h.1 q; omega
theorem tdiv_ok64 {a b : Int} (ha : ok64 a) (hb : 0 < b) : ok64 (a.tdiv b) := by
  have h := tdiv_in a b hb
  unfold ok64 at ha ⊢
  rcases Int.lt_or_le a 0 with q | q
  · have := h.2 q; omega
  · have := h.1 q; omega
theorem tmod_in (a b : Int) (hb : 0 < b) : (0 ≤ a → 0 ≤ a.tmod b ∧ a.tmod b ≤ a) ∧ (a < 0 → a ≤ a.tmod b ∧ a.tmod b ≤ 0) := by
  constructor
  · intro h
    rw [Int.tmod_eq_emod_of_nonneg h]
    have h3 := Int.mul_nonneg (Int.le_of_lt hb) (Int.ediv_nonneg h (Int.le_of_lt hb))
    exact ⟨Int.emod_nonneg _ (by omega), by rw [Int.emod_def]; omega⟩
  · intro h
    have e1 : a.tmod b = -((-a) % b) := by
      have : a = -(-a) := by omega
      rw [this, Int.neg_tmod, Int.tmod_eq_emod_of_nonneg (by omega)]
      simp
    rw [e1]
    have h1 := Int.emod_nonneg (-a) (b := b) (by omega)
    have h3 := Int.mul_nonneg (Int.le_of_lt hb) (Int.ediv_nonneg (a := -a) (by omega) (Int.le_of_lt hb))
    have h2 : (-a) % b ≤ -a := by rw [Int.emod_def]; omega
    omega
theorem zc_idiv (hs : (pc, .idiv) :: k <:+ cd y) (ho : zokI y pc (.idiv) k = true) (h : sem kn C d y pc (.idiv) k ls st σ Aq Bq (fun k ls st σ => zReal l D tc A ex σ0 kn d y k ls st σ Aq Bq)) : zReal l D tc A ex σ0 kn d y ((pc, .idiv) :: k) ls st σ Aq Bq := by
  intro p e R s m args below meth c hc hr ad H locs cells slots lsR stR C0 S0 hC hS hz hlo hle hst Qw qa qb pc' i' k'' he _
  cases he
  have go := zgo_of (k := k) ((List.suffix_cons _ _).trans hs) hc hr hC hS qa qb
  obtain ⟨hx, hb, hml, hrt, hlk, hown, hts, hK, hE, hnm, hn1, hn2⟩ := hc
  obtain ⟨hd, i2, k2, e2⟩ := zdn_ok (show zdn y pc k .idiv 1 = true from ho)
  unfold sem at h
  dsimp only at h
  split at h
  · rename_i b a r
    obtain ⟨y1, q1, rfl, ey, hst⟩ := zst_i hst
    obtain ⟨x1, q2, rfl, ex1, hst⟩ := zst_i hst
    have hpos : 0 < b ∧ zReal l D tc A ex σ0 kn d y k ls ((0, a.tdiv b) :: r) σ Aq Bq := by
      unfold nz at h
      split at h
      · exact ⟨Int.natCast_pos.mpr (Nat.succ_pos _), h⟩
      · exact h
    obtain ⟨hp, hh⟩ := hpos
    have hy0 : ¬ y1 = 0 := fun q => by rw [q] at ey; simp at ey; omega
    refine lv_idiv hx hb hd hy0 (go _ _ _ _ _ _ _ _ _ _ hh zLat.rf hz hlo hle (zpi ?_ hst) _ _ _ e2)
    rw [Int32.toInt_div, ex1, ey]; exact bm32 (tdiv_ok32 (ex1 ▸ i32_ok x1) hp)
  · exact h.elim
theorem zc_ldiv (hs : (pc, .ldiv) :: k <:+ cd y) (ho : zokI y pc (.ldiv) k = true) (h : sem kn C d y pc (.ldiv) k ls st σ Aq Bq (fun k ls st σ => zReal l D tc A ex σ0 kn d y k ls st σ Aq Bq)) : zReal l D tc A ex σ0 kn d y ((pc, .ldiv) :: k) ls st σ Aq Bq := by
  intro p e R s m args below meth c hc hr ad H locs cells slots lsR stR C0 S0 hC hS hz hlo hle hst Qw qa qb pc' i' k'' he _
  cases he
  have go := zgo_of (k := k) ((List.suffix_cons _ _).trans hs) hc hr hC hS qa qb
  obtain ⟨hx, hb, hml, hrt, hlk, hown, hts, hK, hE, hnm, hn1, hn2⟩ := hc
  obtain ⟨hd, i2, k2, e2⟩ := zdn_ok (show zdn y pc k .ldiv 1 = true from ho)
  unfold sem at h
  dsimp only at h
  split at h
  · rename_i b a r
    obtain ⟨y1, q1, rfl, ey, hst⟩ := zst_l hst
    obtain ⟨x1, q2, rfl, ex1, hst⟩ := zst_l hst
    have hpos : 0 < b ∧ zReal l D tc A ex σ0 kn d y k ls ((1, a.tdiv b) :: r) σ Aq Bq := by
      unfold nz at h
      split at h
      · exact ⟨Int.natCast_pos.mpr (Nat.succ_pos _), h⟩
      · exact h
    obtain ⟨hp, hh⟩ := hpos
    have hy0 : ¬ y1 = 0 := fun q => by rw [q] at ey; simp at ey; omega
    refine lv_ldiv hx hb hd hy0 (go _ _ _ _ _ _ _ _ _ _ hh zLat.rf hz hlo hle (zpl ?_ hst) _ _ _ e2)
    rw [Int64.toInt_div, ex1, ey]; exact bm64 (tdiv_ok64 (ex1 ▸ i64_ok x1) hp)
  · exact h.elim
theorem zc_irem (hs : (pc, .irem) :: k <:+ cd y) (ho : zokI y pc (.irem) k = true) (h : sem kn C d y pc (.irem) k ls st σ Aq Bq (fun k ls st σ => zReal l D tc A ex σ0 kn d y k ls st σ Aq Bq)) : zReal l D tc A ex σ0 kn d y ((pc, .irem) :: k) ls st σ Aq Bq := by
  intro p e R s m args below meth c hc hr ad H locs cells slots lsR stR C0 S0 hC hS hz hlo hle hst Qw qa qb pc' i' k'' he _
  cases he
  have go := zgo_of (k := k) ((List.suffix_cons _ _).trans hs) hc hr hC hS qa qb
  obtain ⟨hx, hb, hml, hrt, hlk, hown, hts, hK, hE, hnm, hn1, hn2⟩ := hc
  obtain ⟨hd, i2, k2, e2⟩ := zdn_ok (show zdn y pc k .irem 1 = true from ho)
  unfold sem at h
  dsimp only at h
  split at h
  · rename_i b a r
    obtain ⟨y1, q1, rfl, ey, hst⟩ := zst_i hst
    obtain ⟨x1, q2, rfl, ex1, hst⟩ := zst_i hst
    have hpos : 0 < b ∧ zReal l D tc A ex σ0 kn d y k ls ((0, a.tmod b) :: r) σ Aq Bq := by
      unfold nz at h
      split at h
      · exact ⟨Int.natCast_pos.mpr (Nat.succ_pos _), h⟩
      · exact h
    obtain ⟨hp, hh⟩ := hpos
    have hy0 : ¬ y1 = 0 := fun q => by rw [q] at ey; simp at ey; omega
    refine lv_irem hx hb hd hy0 (go _ _ _ _ _ _ _ _ _ _ hh zLat.rf hz hlo hle (zpi ?_ hst) _ _ _ e2)
    have q1 : (x1 / y1).toInt = a.tdiv b := by rw [Int32.toInt_div, ex1, ey]; exact bm32 (tdiv_ok32 (ex1 ▸ i32_ok x1) hp)
    have q3 : a - a.tdiv b * b = a.tmod b := by have := Int.tmod_add_mul_tdiv a b; rw [Int.mul_comm] at this; omega
    have q4 := tmod_in a b hp
    have q5 := ex1 ▸ i32_ok x1
    rw [Int32.toInt_sub, Int32.toInt_mul, q1, ex1, ey, Int.sub_bmod_bmod, q3]
    refine bm32 ?_
    unfold ok32 at q5 ⊢
    rcases Int.lt_or_le a 0 with q | q
    · have := q4.2 q; omega
    · have := q4.1 q; omega
  · exact h.elim
theorem zc_lrem (hs : (pc, .lrem) :: k <:+ cd y) (ho : zokI y pc (.lrem) k = true) (h : sem kn C d y pc (.lrem) k ls st σ Aq Bq (fun k ls st σ => zReal l D tc A ex σ0 kn d y k ls st σ Aq Bq)) : zReal l D tc A ex σ0 kn d y ((pc, .lrem) :: k) ls st σ Aq Bq := by
  intro p e R s m args below meth c hc hr ad H locs cells slots lsR stR C0 S0 hC hS hz hlo hle hst Qw qa qb pc' i' k'' he _
  cases he
  have go := zgo_of (k := k) ((List.suffix_cons _ _).trans hs) hc hr hC hS qa qb
  obtain ⟨hx, hb, hml, hrt, hlk, hown, hts, hK, hE, hnm, hn1, hn2⟩ := hc
  obtain ⟨hd, i2, k2, e2⟩ := zdn_ok (show zdn y pc k .lrem 1 = true from ho)
  unfold sem at h
  dsimp only at h
  split at h
  · rename_i b a r
    obtain ⟨y1, q1, rfl, ey, hst⟩ := zst_l hst
    obtain ⟨x1, q2, rfl, ex1, hst⟩ := zst_l hst
    have hpos : 0 < b ∧ zReal l D tc A ex σ0 kn d y k ls ((1, a.tmod b) :: r) σ Aq Bq := by
      unfold nz at h
      split at h
      · exact ⟨Int.natCast_pos.mpr (Nat.succ_pos _), h⟩
      · exact h
    obtain ⟨hp, hh⟩ := hpos
    have hy0 : ¬ y1 = 0 := fun q => by rw [q] at ey; simp at ey; omega
    refine lv_lrem hx hb hd hy0 (go _ _ _ _ _ _ _ _ _ _ hh zLat.rf hz hlo hle (zpl ?_ hst) _ _ _ e2)
    have q1 : (x1 / y1).toInt = a.tdiv b := by rw [Int64.toInt_div, ex1, ey]; exact bm64 (tdiv_ok64 (ex1 ▸ i64_ok x1) hp)
    have q3 : a - a.tdiv b * b = a.tmod b := by have := Int.tmod_add_mul_tdiv a b; rw [Int.mul_comm] at this; omega
    have q4 := tmod_in a b hp
    have q5 := ex1 ▸ i64_ok x1
    rw [Int64.toInt_sub, Int64.toInt_mul, q1, ex1, ey, Int.sub_bmod_bmod, q3]
    refine bm64 ?_
    unfold ok64 at q5 ⊢
    rcases Int.lt_or_le a 0 with q | q
    · have := q4.2 q; omega
    · have := q4.1 q; omega
  · exact h.elim
theorem zc_lshl (hs : (pc, .lshl) :: k <:+ cd y) (ho : zokI y pc (.lshl) k = true) (h : sem kn C d y pc (.lshl) k ls st σ Aq Bq (fun k ls st σ => zReal l D tc A ex σ0 kn d y k ls st σ Aq Bq)) : zReal l D tc A ex σ0 kn d y ((pc, .lshl) :: k) ls st σ Aq Bq := by
  intro p e R s m args below meth c hc hr ad H locs cells slots lsR stR C0 S0 hC hS hz hlo hle hst Qw qa qb pc' i' k'' he _
  cases he
  have go := zgo_of (k := k) ((List.suffix_cons _ _).trans hs) hc hr hC hS qa qb
  obtain ⟨hx, hb, hml, hrt, hlk, hown, hts, hK, hE, hnm, hn1, hn2⟩ := hc
  obtain ⟨hd, i2, k2, e2⟩ := zdn_ok (show zdn y pc k .lshl 1 = true from ho)
  unfold sem at h
  dsimp only at h
  split at h
  · rename_i b a r
    obtain ⟨y1, q1, rfl, ey, hst⟩ := zst_i hst
    obtain ⟨x1, q2, rfl, ex1, hst⟩ := zst_l hst
    refine lv_lshl hx hb hd rfl (go _ _ _ _ _ _ _ _ _ _ h zLat.rf hz hlo hle (zpl ?_ hst) _ _ _ e2)
    rw [← ex1, ← ey]; simp only [shl64, i32_of, i64_of]
  · exact h.elim
theorem zc_lshr (hs : (pc, .lshr) :: k <:+ cd y) (ho : zokI y pc (.lshr) k = true) (h : sem kn C d y pc (.lshr) k ls st σ Aq Bq (fun k ls st σ => zReal l D tc A ex σ0 kn d y k ls st σ Aq Bq)) : zReal l D tc A ex σ0 kn d y ((pc, .lshr) :: k) ls st σ Aq Bq := by
  intro p e R s m args below meth c hc hr ad H locs cells slots lsR stR C0 S0 hC hS hz hlo hle hst Qw qa qb pc' i' k'' he _
  cases he
  have go := zgo_of (k := k) ((List.suffix_cons _ _).trans hs) hc hr hC hS qa qb
  obtain ⟨hx, hb, hml, hrt, hlk, hown, hts, hK, hE, hnm, hn1, hn2⟩ := hc
  obtain ⟨hd, i2, k2, e2⟩ := zdn_ok (show zdn y pc k .lshr 1 = true from ho)
  unfold sem at h
  dsimp only at h
  split at h
  · rename_i b a r
    obtain ⟨y1, q1, rfl, ey, hst⟩ := zst_i hst
    obtain ⟨x1, q2, rfl, ex1, hst⟩ := zst_l hst
    refine lv_lshr hx hb hd rfl (go _ _ _ _ _ _ _ _ _ _ h zLat.rf hz hlo hle (zpl ?_ hst) _ _ _ e2)
    rw [← ex1, ← ey]; simp only [shr64, i32_of, i64_of]
  · exact h.elim
theorem zc_lushr (hs : (pc, .lushr) :: k <:+ cd y) (ho : zokI y pc (.lushr) k = true) (h : sem kn C d y pc (.lushr) k ls st σ Aq Bq (fun k ls st σ => zReal l D tc A ex σ0 kn d y k ls st σ Aq Bq)) : zReal l D tc A ex σ0 kn d y ((pc, .lushr) :: k) ls st σ Aq Bq := by
  intro p e R s m args below meth c hc hr ad H locs cells slots lsR stR C0 S0 hC hS hz hlo hle hst Qw qa qb pc' i' k'' he _
  cases he
  have go := zgo_of (k := k) ((List.suffix_cons _ _).trans hs) hc hr hC hS qa qb
  obtain ⟨hx, hb, hml, hrt, hlk, hown, hts, hK, hE, hnm, hn1, hn2⟩ := hc
  obtain ⟨hd, i2, k2, e2⟩ := zdn_ok (show zdn y pc k .lushr 1 = true from ho)
  unfold sem at h
  dsimp only at h
  split at h
  · rename_i b a r
    obtain ⟨y1, q1, rfl, ey, hst⟩ := zst_i hst
    obtain ⟨x1, q2, rfl, ex1, hst⟩ := zst_l hst
    refine lv_lushr hx hb hd rfl (go _ _ _ _ _ _ _ _ _ _ h zLat.rf hz hlo hle (zpl ?_ hst) _ _ _ e2)
    rw [← ex1, ← ey]; simp only [ushr64, i32_of, i64_of]
  · exact h.elim
theorem zc_iushr (hs : (pc, .iushr) :: k <:+ cd y) (ho : zokI y pc (.iushr) k = true) (h : sem kn C d y pc (.iushr) k ls st σ Aq Bq (fun k ls st σ => zReal l D tc A ex σ0 kn d y k ls st σ Aq Bq)) : zReal l D tc A ex σ0 kn d y ((pc, .iushr) :: k) ls st σ Aq Bq := by
  intro p e R s m args below meth c hc hr ad H locs cells slots lsR stR C0 S0 hC hS hz hlo hle hst Qw qa qb pc' i' k'' he _
  cases he
  have go := zgo_of (k := k) ((List.suffix_cons _ _).trans hs) hc hr hC hS qa qb
  obtain ⟨hx, hb, hml, hrt, hlk, hown, hts, hK, hE, hnm, hn1, hn2⟩ := hc
  obtain ⟨hd, i2, k2, e2⟩ := zdn_ok (show zdn y pc k .iushr 1 = true from ho)
  unfold sem at h
  dsimp only at h
  split at h
  · rename_i b a r
    obtain ⟨y1, q1, rfl, ey, hst⟩ := zst_i hst
    obtain ⟨x1, q2, rfl, ex1, hst⟩ := zst_i hst
    refine lv_iushr hx hb hd rfl (go _ _ _ _ _ _ _ _ _ _ h zLat.rf hz hlo hle (zpi ?_ hst) _ _ _ e2)
    rw [← ex1, ← ey]; simp only [ushr32, i32_of]
  · exact h.elim
theorem zc_ineg (hs : (pc, .ineg) :: k <:+ cd y) (ho : zokI y pc (.ineg) k = true) (h : sem kn C d y pc (.ineg) k ls st σ Aq Bq (fun k ls st σ => zReal l D tc A ex σ0 kn d y k ls st σ Aq Bq)) : zReal l D tc A ex σ0 kn d y ((pc, .ineg) :: k) ls st σ Aq Bq := by
  intro p e R s m args below meth c hc hr ad H locs cells slots lsR stR C0 S0 hC hS hz hlo hle hst Qw qa qb pc' i' k'' he _
  cases he
  have go := zgo_of (k := k) ((List.suffix_cons _ _).trans hs) hc hr hC hS qa qb
  obtain ⟨hx, hb, hml, hrt, hlk, hown, hts, hK, hE, hnm, hn1, hn2⟩ := hc
  obtain ⟨hd, i2, k2, e2⟩ := zdn_ok (show zdn y pc k .ineg 1 = true from ho)
  unfold sem at h
  dsimp only at h
  split at h
  · rename_i a r
    obtain ⟨x1, q2, rfl, ex1, hst⟩ := zst_i hst
    refine lv_ineg hx hb hd (go _ _ _ _ _ _ _ _ _ _ h.2 zLat.rf hz hlo hle (zpi ?_ hst) _ _ _ e2)
    rw [Int32.toInt_neg, ex1]; exact bm32 h.1
  · exact h.elim
theorem zc_lneg (hs : (pc, .lneg) :: k <:+ cd y) (ho : zokI y pc (.lneg) k = true) (h : sem kn C d y pc (.lneg) k ls st σ Aq Bq (fun k ls st σ => zReal l D tc A ex σ0 kn d y k ls st σ Aq Bq)) : zReal l D tc A ex σ0 kn d y ((pc, .lneg) :: k) ls st σ Aq Bq := by
  intro p e R s m args below meth c hc hr ad H locs cells slots lsR stR C0 S0 hC hS hz hlo hle hst Qw qa qb pc' i' k'' he _
  cases he
  have go := zgo_of (k := k) ((List.suffix_cons _ _).trans hs) hc hr hC hS qa qb
  obtain ⟨hx, hb, hml, hrt, hlk, hown, hts, hK, hE, hnm, hn1, hn2⟩ := hc
  obtain ⟨hd, i2, k2, e2⟩ := zdn_ok (show zdn y pc k .lneg 1 = true from ho)
  unfold sem at h
  dsimp only at h
  split at h
  · rename_i a r
    obtain ⟨x1, q2, rfl, ex1, hst⟩ := zst_l hst
    refine lv_lneg hx hb hd (go _ _ _ _ _ _ _ _ _ _ h.2 zLat.rf hz hlo hle (zpl ?_ hst) _ _ _ e2)
    rw [Int64.toInt_neg, ex1]; exact bm64 h.1
  · exact h.elim
theorem zc_i2l (hs : (pc, .i2l) :: k <:+ cd y) (ho : zokI y pc (.i2l) k = true) (h : sem kn C d y pc (.i2l) k ls st σ Aq Bq (fun k ls st σ => zReal l D tc A ex σ0 kn d y k ls st σ Aq Bq)) : zReal l D tc A ex σ0 kn d y ((pc, .i2l) :: k) ls st σ Aq Bq := by
  intro p e R s m args below meth c hc hr ad H locs cells slots lsR stR C0 S0 hC hS hz hlo hle hst Qw qa qb pc' i' k'' he _
  cases he
  have go := zgo_of (k := k) ((List.suffix_cons _ _).trans hs) hc hr hC hS qa qb
  obtain ⟨hx, hb, hml, hrt, hlk, hown, hts, hK, hE, hnm, hn1, hn2⟩ := hc
  obtain ⟨hd, i2, k2, e2⟩ := zdn_ok (show zdn y pc k .i2l 1 = true from ho)
  unfold sem at h
  dsimp only at h
  split at h
  · rename_i a r
    obtain ⟨x1, q2, rfl, ex1, hst⟩ := zst_i hst
    refine lv_i2l hx hb hd rfl (go _ _ _ _ _ _ _ _ _ _ h zLat.rf hz hlo hle (zpl ?_ hst) _ _ _ e2)
    rw [Int32.toInt_toInt64, ex1]
  · exact h.elim
theorem zc_l2i (hs : (pc, .l2i) :: k <:+ cd y) (ho : zokI y pc (.l2i) k = true) (h : sem kn C d y pc (.l2i) k ls st σ Aq Bq (fun k ls st σ => zReal l D tc A ex σ0 kn d y k ls st σ Aq Bq)) : zReal l D tc A ex σ0 kn d y ((pc, .l2i) :: k) ls st σ Aq Bq := by
  intro p e R s m args below meth c hc hr ad H locs cells slots lsR stR C0 S0 hC hS hz hlo hle hst Qw qa qb pc' i' k'' he _
  cases he
  have go := zgo_of (k := k) ((List.suffix_cons _ _).trans hs) hc hr hC hS qa qb
  obtain ⟨hx, hb, hml, hrt, hlk, hown, hts, hK, hE, hnm, hn1, hn2⟩ := hc
  obtain ⟨hd, i2, k2, e2⟩ := zdn_ok (show zdn y pc k .l2i 1 = true from ho)
  unfold sem at h
  dsimp only at h
  split at h
  · rename_i a r
    obtain ⟨x1, q2, rfl, ex1, hst⟩ := zst_l hst
    refine lv_l2i hx hb hd rfl (go _ _ _ _ _ _ _ _ _ _ h zLat.rf hz hlo hle (zpi ?_ hst) _ _ _ e2)
    rw [Int64.toInt_toInt32, ex1]; exact bw32 _
  · exact h.elim
theorem zc_i2c (hs : (pc, .i2c) :: k <:+ cd y) (ho : zokI y pc (.i2c) k = true) (h : sem kn C d y pc (.i2c) k ls st σ Aq Bq (fun k ls st σ => zReal l D tc A ex σ0 kn d y k ls st σ Aq Bq)) : zReal l D tc A ex σ0 kn d y ((pc, .i2c) :: k) ls st σ Aq Bq := by
  intro p e R s m args below meth c hc hr ad H locs cells slots lsR stR C0 S0 hC hS hz hlo hle hst Qw qa qb pc' i' k'' he _
  cases he
  have go := zgo_of (k := k) ((List.suffix_cons _ _).trans hs) hc hr hC hS qa qb
  obtain ⟨hx, hb, hml, hrt, hlk, hown, hts, hK, hE, hnm, hn1, hn2⟩ := hc
  obtain ⟨hd, i2, k2, e2⟩ := zdn_ok (show zdn y pc k .i2c 1 = true from ho)
  unfold sem at h
  dsimp only at h
  split at h
  · rename_i a r
    obtain ⟨x1, q2, rfl, ex1, hst⟩ := zst_i hst
    refine lv_i2c hx hb hd (v := x1) ?_ (go _ _ _ _ _ _ _ _ _ _ h.2 zLat.rf hz hlo hle (zpi ex1 hst) _ _ _ e2)
    obtain ⟨h1, h2⟩ := h.1
    obtain ⟨j, hj, rfl⟩ := nI_of (x := x1) (fun q => by have := Int32.lt_iff_toInt_lt.mp q; simp at this; omega)
    rw [nI_toInt hj] at ex1
    rw [pk_char, pk_tn (by omega), Nat.mod_eq_of_lt (by omega)]
  · exact h.elim
theorem zc_iload {n : Nat} (hs : (pc, .iload n) :: k <:+ cd y) (ho : zokI y pc (.iload n) k = true) (h : sem kn C d y pc (.iload n) k ls st σ Aq Bq (fun k ls st σ => zReal l D tc A ex σ0 kn d y k ls st σ Aq Bq)) : zReal l D tc A ex σ0 kn d y ((pc, .iload n) :: k) ls st σ Aq Bq := by
  intro p e R s m args below meth c hc hr ad H locs cells slots lsR stR C0 S0 hC hS hz hlo hle hst Qw qa qb pc' i' k'' he _
  cases he
  have go := zgo_of (k := k) ((List.suffix_cons _ _).trans hs) hc hr hC hS qa qb
  obtain ⟨hx, hb, hml, hrt, hlk, hown, hts, hK, hE, hnm, hn1, hn2⟩ := hc
  unfold sem at h
  dsimp only at h
  split at h
  · rename_i z hz1
    obtain ⟨w, hw, hr1⟩ := hlo.2.2 n _ (zget_len hz1 (by simp)) (by simp)
    obtain ⟨x1, rfl, ex1⟩ := hw
    rcases zd4_ok (show zd4 y pc k n _ _ = true from ho) with ⟨j, hj, ho⟩ | ho
    · obtain ⟨hd, i2, k2, e2⟩ := zdn_ok ho
      exact lv_iload_n hx hb hd hj hr1 (go _ _ _ _ _ _ _ _ _ _ h zLat.rf hz hlo hle (zpi ex1 hst) _ _ _ e2)
    · obtain ⟨hd, i2, k2, e2⟩ := zdn_ok ho
      exact lv_iload hx hb hd hr1 (go _ _ _ _ _ _ _ _ _ _ h zLat.rf hz hlo hle (zpi ex1 hst) _ _ _ e2)
  · exact h.elim
theorem zc_lload {n : Nat} (hs : (pc, .lload n) :: k <:+ cd y) (ho : zokI y pc (.lload n) k = true) (h : sem kn C d y pc (.lload n) k ls st σ Aq Bq (fun k ls st σ => zReal l D tc A ex σ0 kn d y k ls st σ Aq Bq)) : zReal l D tc A ex σ0 kn d y ((pc, .lload n) :: k) ls st σ Aq Bq := by
  intro p e R s m args below meth c hc hr ad H locs cells slots lsR stR C0 S0 hC hS hz hlo hle hst Qw qa qb pc' i' k'' he _
  cases he
  have go := zgo_of (k := k) ((List.suffix_cons _ _).trans hs) hc hr hC hS qa qb
  obtain ⟨hx, hb, hml, hrt, hlk, hown, hts, hK, hE, hnm, hn1, hn2⟩ := hc
  unfold sem at h
  dsimp only at h
  split at h
  · rename_i z hz1
    obtain ⟨w, hw, hr1⟩ := hlo.2.2 n _ (zget_len hz1 (by simp)) (by simp)
    obtain ⟨x1, rfl, ex1⟩ := hw
    rcases zd4_ok (show zd4 y pc k n _ _ = true from ho) with ⟨j, hj, ho⟩ | ho
    · obtain ⟨hd, i2, k2, e2⟩ := zdn_ok ho
      exact lv_lload_n hx hb hd hj hr1 (go _ _ _ _ _ _ _ _ _ _ h zLat.rf hz hlo hle (zpl ex1 hst) _ _ _ e2)
    · obtain ⟨hd, i2, k2, e2⟩ := zdn_ok ho
      exact lv_lload hx hb hd hr1 (go _ _ _ _ _ _ _ _ _ _ h zLat.rf hz hlo hle (zpl ex1 hst) _ _ _ e2)
  · exact h.elim
theorem zw_aload {p : Program} {e : Env} {R : Room} {s : State} {m : MethodId} {args : Array Value} {below : List Frame} {meth : Method} {c : Code} {H : Heap} {locs : List Loc} {cells slots : Nat} {lsR : Array Slot} {stR : List Value} {Qw : State → Prop} {n : Nat} {w : Value} {i : Instr} {k : mC} (hx : p.tables.exec = Jvm.exec) (hb : c.code = zcoN y) (ho : zokI y pc (.aload n) k = true) (hw : w = .null ∨ ∃ a, w = .ref a) (hr : lsR[n]? = some (.val w))
    (kk : ∀ (q : Nat) (i : Instr) (k' : mC), k = (q, i) :: k' → W p l e R s m args below meth c H locs cells slots Qw (F0 m q lsR (w :: stR))) : W p l e R s m args below meth c H locs cells slots Qw (F0 m pc lsR stR) := by
  rcases zd4_ok (show zd4 y pc k n _ _ = true from ho) with ⟨j, hj, ho⟩ | ho
  · obtain ⟨hd, i2, k2, e2⟩ := zdn_ok ho
    rcases hw with rfl | ⟨a, rfl⟩
    · exact lv_aload_nN hx hb hd hj hr (kk _ _ _ e2)
    · exact lv_aload_n hx hb hd hj hr (kk _ _ _ e2)
  · obtain ⟨hd, i2, k2, e2⟩ := zdn_ok ho
    rcases hw with rfl | ⟨a, rfl⟩
    · exact lv_aloadN hx hb hd hr (kk _ _ _ e2)
    · exact lv_aload hx hb hd hr (kk _ _ _ e2)
theorem zref_of {ad : Nat → Nat} {σ : mM} {z : Int} {w : Value} (h : zval ad σ (2, z) w) : w = .null ∨ ∃ a, w = .ref a := by
  rcases h with ⟨-, rfl⟩ | ⟨-, rfl⟩
  · exact Or.inl rfl
  · exact Or.inr ⟨_, rfl⟩
theorem zc_aload {n : Nat} (hs : (pc, .aload n) :: k <:+ cd y) (ho : zokI y pc (.aload n) k = true) (h : sem kn C d y pc (.aload n) k ls st σ Aq Bq (fun k ls st σ => zReal l D tc A ex σ0 kn d y k ls st σ Aq Bq)) : zReal l D tc A ex σ0 kn d y ((pc, .aload n) :: k) ls st σ Aq Bq := by
  intro p e R s m args below meth c hc hr ad H locs cells slots lsR stR C0 S0 hC hS hz hlo hle hst Qw qa qb pc' i' k'' he _
  cases he
  have go := zgo_of (k := k) ((List.suffix_cons _ _).trans hs) hc hr hC hS qa qb
  obtain ⟨hx, hb, hml, hrt, hlk, hown, hts, hK, hE, hnm, hn1, hn2⟩ := hc
  unfold sem at h
  dsimp only at h
  split at h
  · rename_i z hz1
    obtain ⟨w, hw, hr1⟩ := hlo.2.2 n _ (zget_len hz1 (by simp)) (by simp)
    exact zw_aload (i := .nop) hx hb ho (zref_of hw) hr1 (fun q i k' e2 => go _ _ _ _ _ _ _ _ _ _ h zLat.rf hz hlo hle (zpv hw hst) _ _ _ e2)
  · rename_i z hz1
    obtain ⟨w, hw, hr1⟩ := hlo.2.2 n _ (zget_len hz1 (by simp)) (by simp)
    exact zw_aload (i := .nop) hx hb ho hw hr1 (fun q i k' e2 => go _ _ _ _ _ _ _ _ _ _ h zLat.rf hz hlo hle (zpv hw hst) _ _ _ e2)
  · exact h.elim
end ZC
