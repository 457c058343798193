/-! the texts: their bytes, their methods; printed by tools/genstr.py -/
set_option maxRecDepth 100000
set_option maxHeartbeats 4000000
def strB : List (List Int) := [[111, 114, 100, 101, 114], [107, 105, 110, 100], [99, 108, 97, 115, 115], [102, 105, 101, 108, 100], [109, 101, 116, 104, 111, 100], [112, 97, 114, 97, 109], [109, 97, 107, 101, 114], [97, 100, 100, 115], [111, 110], [104, 101, 105, 114, 115], [109, 97, 110, 121], [110, 111], [105, 110, 116], [116, 101, 120, 116], [112, 117, 115, 104], [114, 101, 97, 100], [108, 111, 97, 100], [115, 116, 111, 114, 101], [103, 101, 116], [115, 101, 116], [99, 97, 108, 108], [114, 101, 116], [97, 100, 100], [115, 117, 98], [109, 117, 108], [100, 117, 112], [112, 111, 112], [106, 117, 109, 112], [122, 101, 114, 111], [105, 115], [97, 115], [99, 104, 101, 99, 107], [58, 59, 44, 46, 61, 60, 40, 41, 123, 125, 64, 45], [111, 114, 100, 101, 114], [107, 105, 110, 100], [99, 108, 97, 115, 115], [102, 105, 101, 108, 100], [109, 101, 116, 104, 111, 100], [112, 97, 114, 97, 109], [109, 97, 107, 101, 114], [97, 100, 100, 115], [111, 110], [104, 101, 105, 114, 115], [109, 97, 110, 121], [110, 111], [105, 110, 116], [116, 101, 120, 116], [112, 117, 115, 104], [114, 101, 97, 100], [108, 111, 97, 100], [115, 116, 111, 114, 101], [103, 101, 116], [115, 101, 116], [99, 97, 108, 108], [114, 101, 116], [97, 100, 100], [115, 117, 98], [109, 117, 108], [100, 117, 112], [112, 111, 112], [106, 117, 109, 112], [122, 101, 114, 111], [105, 115], [97, 115], [58], [44], [60], [59], [40], [61], [45], [41], [64], [46], [123], [125], [99, 104, 101, 99, 107]]
def stl (i : Nat) : List Int := strB.getD i []
/-- the texts lie in the memory -/
def SS (σ : mM) : Prop := ∀ i : Nat, i < 77 → ∀ j : Nat, j < (stl i).length → σ (3 + 2 * i) (Int.ofNat j) = (stl i).getD j 0
theorem st_k : ∀ i, i < 77 → Nat.beq (shK ((2 + 2 * i : Nat) : Int)) 118 = true ∧ knS (2 + 2 * i) 0 = some ((3 + 2 * i : Nat) : Int) ∧ knS (2 + 2 * i) 1 = some 0 ∧ Nat.beq (shK ((3 + 2 * i : Nat) : Int)) 3 = true ∧ (shp (3 + 2 * i)).2 = (stl i).length + 1 ∧ (stl i).length ≤ 20 ∧ ∀ c ∈ stl i, 0 < c ∧ c < 128 := by decide +kernel
theorem rdk_s {σ : mM} {a p : Nat} {v : Int} {F : Int → Prop} (h : knS a p = some v) (f : F v) : rdk knS σ a p F := by
  unfold rdk
  rw [h]
  exact f
theorem st_c {i j : Nat} (hi : i < 77) (hj : j < (stl i).length) : 0 < (stl i).getD j 0 ∧ (stl i).getD j 0 < 128 := by
  refine (st_k i hi).2.2.2.2.2.2 _ ?_
  rw [List.getD_eq_getElem?_getD, List.getElem?_eq_getElem hj]
  exact List.getElem_mem hj
theorem shL_s {σ : mM} {i : Nat} (hi : i < 77) : shL σ ((3 + 2 * i : Nat) : Int) = ((stl i).length : Int) := by
  unfold shL
  rw [Int.toNat_natCast, (st_k i hi).2.2.2.2.1]
  rfl
theorem shr32_0 {a : Int} (h : ok32 a) : shr32 a 0 = a := by
  rw [shr32_n h (by decide) (by decide)]
  show a / 1 = a
  exact Int.ediv_one a
theorem jS_coder_c {d i : Nat} {σ : mM} {Q : mA} (hi : i < 77) (h : Q 0 σ) : jS_coder d ((2 + 2 * i : Nat) : Int) σ Q := by
  have k := st_k i hi
  refine jS_coder_r (fun _ => ⟨fun q => absurd q (by decide), fun _ => chk_of k.1 ?_⟩)
  rw [Int.toNat_natCast]
  exact rdk_s k.2.2.1 ⟨by unfold ok8; decide, h⟩
theorem jS_isLatin1_c {d i : Nat} {σ : mM} {Q : mA} (hi : i < 77) (h : Q 1 σ) : jS_isLatin1 d ((2 + 2 * i : Nat) : Int) σ Q := by
  have k := st_k i hi
  refine jS_isLatin1_r (fun _ => ⟨fun q => absurd q (by decide), fun _ => chk_of k.1 ?_⟩)
  rw [Int.toNat_natCast]
  exact rdk_s k.2.2.1 ⟨fun _ => h, fun q => absurd rfl q⟩
theorem st_v {i : Nat} (hi : i < 77) : (Nat.blt 0 (shK ((3 + 2 * i : Nat) : Int)) && Nat.blt (shK ((3 + 2 * i : Nat) : Int)) 7) = true ∧ (Nat.beq (shK ((3 + 2 * i : Nat) : Int)) 3 || Nat.beq (shK ((3 + 2 * i : Nat) : Int)) 4) = true := by
  have k := (st_k i hi).2.2.2.1
  have : shK ((3 + 2 * i : Nat) : Int) = 3 := Nat.eq_of_beq_eq_true k
  rw [this]
  decide
theorem jS_length_c {d i : Nat} {σ : mM} {Q : mA} (hi : i < 77) (h : Q ((stl i).length : Int) σ) : jS_length d ((2 + 2 * i : Nat) : Int) σ Q := by
  have k := st_k i hi
  refine jS_length_r (fun _ => chk_of k.1 ?_)
  rw [Int.toNat_natCast]
  refine rdk_s k.2.1 (chk_of (st_v hi).1 (chk_of k.1 (jS_coder_c hi ?_)))
  rw [shL_s hi, shr32_0 (by unfold ok32; omega)]
  exact h
theorem jS_charAt_c {d i j : Nat} {σ : mM} {Q : mA} (hS : SS σ) (hi : i < 77) (hj : j < (stl i).length) (h : Q ((stl i).getD j 0) σ) : jS_charAt d ((2 + 2 * i : Nat) : Int) (Int.ofNat j) σ Q := by
  have k := st_k i hi
  have hc := st_c hi hj
  have e : and32 (σ (3 + 2 * i) (Int.ofNat j)) 255 = (stl i).getD j 0 := by
    rw [hS i hi j hj, and32_255]
    omega
  have ho : ok16 ((stl i).getD j 0) := by unfold ok16; omega
  refine jS_charAt_r (fun _ => chk_of k.1 (jS_isLatin1_c hi ⟨fun q => absurd q (by decide), fun _ => chk_of k.1 ?_⟩))
  rw [Int.toNat_natCast]
  refine rdk_s k.2.1 (jL_charAt_r (fun _ => chk_of (st_v hi).1 (jS_checkIndex_r (fun _ => jP_checkIndex_r (fun _ => ⟨fun q => ?_, fun _ => ⟨fun _ => chk_of (st_v hi).2 ⟨⟨?_, ?_⟩, ?_⟩, fun q => ?_⟩⟩)))))
  · have : (0 : Int) ≤ Int.ofNat j := Int.natCast_nonneg j
    omega
  · exact Int.natCast_nonneg j
  · rw [shL_s hi]
    exact Int.ofNat_lt.mpr hj
  · rw [Int.toNat_natCast, e]
    exact ⟨ho, ho, ho, h⟩
  · rw [shL_s hi] at q
    have := Int.ofNat_le.mp q
    omega
/-- the words of both, as numbers -/
def wnm (w : Nat) : Int := pkR (stl w) 0
theorem st_w : ∀ w, w < 31 → stl (33 + w) = stl w ∧ (stl w).length ≤ 8 ∧ 1 ≤ (stl w).length := by decide +kernel
def SX (σ : mM) : Prop := (∀ w : Nat, w < 31 → σ 163 (Int.ofNat w) = ((2 + 2 * w : Nat) : Int)) ∧ (∀ w : Nat, w < 31 → σ 164 (Int.ofNat w) = wnm w * pw8 (8 - (stl w).length)) ∧ (∀ o : Nat, o < 4 → σ 229 (Int.ofNat o) = ((230 + o : Nat) : Int))
def SM (σ : mM) : Prop := ∀ w : Nat, w < 31 → σ 282 (Int.ofNat w) = ((2 + 2 * (33 + w) : Nat) : Int)
theorem wnm_ok {w : Nat} (h : w < 31) : nmR (wnm w * pw8 (8 - (stl w).length)) (wnm w) := ⟨stl w, (st_w w h).2.1, (st_k w (by omega)).2.2.2.2.2.2, rfl, rfl⟩
