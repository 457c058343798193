/-! reading: where both stand, and the small steps -/
set_option maxRecDepth 100000
set_option maxHeartbeats 4000000
def LXp : List Nat := [162, 170, 171, 172, 173, 174, 175, 176, 177, 178, 179, 181, 182, 183, 184, 185, 186, 187, 188, 189, 190, 191, 192, 193, 194, 195, 196, 197, 198, 199, 200, 201, 202, 203, 204, 205, 206, 207, 208, 209, 210, 211, 212, 213, 214, 215, 216, 217, 218, 219, 220, 221, 222, 223, 224, 225]
def LMp : List Nat := [286, 287, 288, 289, 290, 291, 292, 293, 294, 295, 296, 297, 298, 299, 300, 301, 302, 303, 304, 305, 306, 307, 308, 309, 310, 311, 312, 313, 314, 315, 316, 317, 318, 319, 320, 321, 322, 323, 324, 325, 326, 327, 328, 329, 330, 331, 332, 333, 334, 335, 336]
def SMp : List Int := [15, 24, 34, 37, 67, 68]
def xadv (σ : mM) : mM := ms σ 162 9 (σ 162 9 + 1)
def madv (σ : mM) : mM := ms σ 279 67 (σ 279 67 + 1)
section RX
variable {d : Nat} {σ : mM} {Q : mA} {Z : mM → Prop} {c k w : Int}
theorem xL_isSignHere_y (h0 : 0 ≤ σ 162 9) (h1 : σ 162 9 < 4001) (hc : σ 165 (σ 162 9) = 4 ∧ σ 166 (σ 162 9) = c) (h : Q 1 σ) : xL_isSignHere d c σ Q := xL_isSignHere_r (fun _ => ⟨⟨h0, h1⟩, fun _ => ⟨⟨h0, h1⟩, fun _ => h, fun q => absurd hc.2 q⟩, fun q => absurd hc.1 q⟩)
theorem xL_isSignHere_n (h0 : 0 ≤ σ 162 9) (h1 : σ 162 9 < 4001) (hc : ¬ (σ 165 (σ 162 9) = 4 ∧ σ 166 (σ 162 9) = c)) (h : Q 0 σ) : xL_isSignHere d c σ Q := xL_isSignHere_r (fun _ => ⟨⟨h0, h1⟩, fun q => ⟨⟨h0, h1⟩, fun z => absurd ⟨q, z⟩ hc, fun _ => h⟩, fun _ => h⟩)
theorem xL_isWord_y (h0 : 0 ≤ σ 162 9) (h1 : σ 162 9 < 4001) (hc : σ 165 (σ 162 9) = 5 ∧ σ 166 (σ 162 9) = c) (h : Q 1 σ) : xL_isWord d c σ Q := xL_isWord_r (fun _ => ⟨⟨h0, h1⟩, fun _ => ⟨⟨h0, h1⟩, fun _ => h, fun q => absurd hc.2 q⟩, fun q => absurd hc.1 q⟩)
theorem xL_isWord_n (h0 : 0 ≤ σ 162 9) (h1 : σ 162 9 < 4001) (hc : ¬ (σ 165 (σ 162 9) = 5 ∧ σ 166 (σ 162 9) = c)) (h : Q 0 σ) : xL_isWord d c σ Q := xL_isWord_r (fun _ => ⟨⟨h0, h1⟩, fun q => ⟨⟨h0, h1⟩, fun z => absurd ⟨q, z⟩ hc, fun _ => h⟩, fun _ => h⟩)
theorem xL_takes_1 (h0 : 0 ≤ σ 162 9) (h1 : σ 162 9 < 4001) (h : Q 1 (xadv σ)) : xL_takes d 1 σ Q := xL_takes_r (fun _ => ⟨fun q => absurd q (by decide), fun _ => ⟨by unfold ok32; omega, h⟩⟩)
theorem xL_takes_0 (h : Q 0 σ) : xL_takes d 0 σ Q := xL_takes_r (fun _ => ⟨fun _ => h, fun q => absurd rfl q⟩)
theorem xR_takesSign_y (h0 : 0 ≤ σ 162 9) (h1 : σ 162 9 < 4001) (hc : σ 165 (σ 162 9) = 4 ∧ σ 166 (σ 162 9) = c) (h : Q 1 (xadv σ)) : xR_takesSign d c σ Q := xR_takesSign_r (fun _ => xL_isSignHere_y h0 h1 hc (xL_takes_1 h0 h1 h))
theorem xR_takesSign_n (h0 : 0 ≤ σ 162 9) (h1 : σ 162 9 < 4001) (hc : ¬ (σ 165 (σ 162 9) = 4 ∧ σ 166 (σ 162 9) = c)) (h : Q 0 σ) : xR_takesSign d c σ Q := xR_takesSign_r (fun _ => xL_isSignHere_n h0 h1 hc (xL_takes_0 h))
theorem xR_takesWord_y (h0 : 0 ≤ σ 162 9) (h1 : σ 162 9 < 4001) (hc : σ 165 (σ 162 9) = 5 ∧ σ 166 (σ 162 9) = c) (h : Q 1 (xadv σ)) : xR_takesWord d c σ Q := xR_takesWord_r (fun _ => xL_isWord_y h0 h1 hc (xL_takes_1 h0 h1 h))
theorem xR_takesWord_n (h0 : 0 ≤ σ 162 9) (h1 : σ 162 9 < 4001) (hc : ¬ (σ 165 (σ 162 9) = 5 ∧ σ 166 (σ 162 9) = c)) (h : Q 0 σ) : xR_takesWord d c σ Q := xR_takesWord_r (fun _ => xL_isWord_n h0 h1 hc (xL_takes_0 h))
theorem xR_must_1 (h : Q 0 σ) : xR_must d 1 k σ Q Z := xR_must_r (fun _ => ⟨fun q => absurd q (by decide), fun _ => h⟩)
theorem xR_fail_c (h0 : 0 ≤ σ 162 9) (h1 : σ 162 9 < 4001) (h2 : 1 ≤ σ 0 2) (h3 : 6 ≤ σ 0 3) (h : Z (xfl σ k (σ 167 (σ 162 9)))) : xR_fail d k σ Q Z := xR_fail_r (fun _ => xL_start_r (fun _ => ⟨⟨h0, h1⟩, xE_fail_c h2 h3 h⟩))
theorem xR_must_0 (h0 : 0 ≤ σ 162 9) (h1 : σ 162 9 < 4001) (h2 : 1 ≤ σ 0 2) (h3 : 6 ≤ σ 0 3) (h : Z (xfl σ k (σ 167 (σ 162 9)))) : xR_must d 0 k σ Q Z := xR_must_r (fun _ => ⟨fun _ => xR_fail_c h0 h1 h2 h3 h, fun q => absurd rfl q⟩)
theorem xR_sign_y (h0 : 0 ≤ σ 162 9) (h1 : σ 162 9 < 4001) (hc : σ 165 (σ 162 9) = 4 ∧ σ 166 (σ 162 9) = c) (h : Q 0 (xadv σ)) : xR_sign d c σ Q Z := xR_sign_r (fun _ => xL_isSignHere_y h0 h1 hc (xL_takes_1 h0 h1 (xR_must_1 h)))
theorem xR_sign_n (h0 : 0 ≤ σ 162 9) (h1 : σ 162 9 < 4001) (h2 : 1 ≤ σ 0 2) (h3 : 6 ≤ σ 0 3) (hc : ¬ (σ 165 (σ 162 9) = 4 ∧ σ 166 (σ 162 9) = c)) (h : Z (xfl σ 2 (σ 167 (σ 162 9)))) : xR_sign d c σ Q Z := xR_sign_r (fun _ => xL_isSignHere_n h0 h1 hc (xL_takes_0 (xR_must_0 h0 h1 h2 h3 h)))
theorem xR_word_y (h0 : 0 ≤ σ 162 9) (h1 : σ 162 9 < 4001) (hc : σ 165 (σ 162 9) = 5 ∧ σ 166 (σ 162 9) = c) (h : Q 0 (xadv σ)) : xR_word d c σ Q Z := xR_word_r (fun _ => xR_takesWord_y h0 h1 hc (xR_must_1 h))
theorem xR_word_n (h0 : 0 ≤ σ 162 9) (h1 : σ 162 9 < 4001) (h2 : 1 ≤ σ 0 2) (h3 : 6 ≤ σ 0 3) (hc : ¬ (σ 165 (σ 162 9) = 5 ∧ σ 166 (σ 162 9) = c)) (h : Z (xfl σ 2 (σ 167 (σ 162 9)))) : xR_word d c σ Q Z := xR_word_r (fun _ => xR_takesWord_n h0 h1 hc (xR_must_0 h0 h1 h2 h3 h))
theorem xR_name_y (h0 : 0 ≤ σ 162 9) (h1 : σ 162 9 < 4001) (hc : σ 165 (σ 162 9) = 1) (h : Q (σ 168 (σ 162 9)) σ) : xR_name d σ Q Z := xR_name_r (fun _ => xL_kind_r (fun _ => ⟨⟨h0, h1⟩, fun _ => xR_must_1 (xL_name1_r (fun _ => ⟨⟨h0, h1⟩, h⟩)), fun q => absurd hc q⟩))
theorem xR_name_n (h0 : 0 ≤ σ 162 9) (h1 : σ 162 9 < 4001) (h2 : 1 ≤ σ 0 2) (h3 : 6 ≤ σ 0 3) (hc : ¬ σ 165 (σ 162 9) = 1) (h : Z (xfl σ 2 (σ 167 (σ 162 9)))) : xR_name d σ Q Z := xR_name_r (fun _ => xL_kind_r (fun _ => ⟨⟨h0, h1⟩, fun q => absurd q hc, fun _ => xR_must_0 h0 h1 h2 h3 h⟩))
theorem xR_taken_y (h0 : 0 ≤ σ 162 9) (h1 : σ 162 9 < 4001) (hc : σ 165 (σ 162 9) = 1) (h : Q (σ 168 (σ 162 9)) (xadv σ)) : xR_taken d σ Q Z := xR_taken_r (fun _ => xR_name_y h0 h1 hc ⟨by unfold ok32; omega, h⟩)
theorem xR_taken_n (h0 : 0 ≤ σ 162 9) (h1 : σ 162 9 < 4001) (h2 : 1 ≤ σ 0 2) (h3 : 6 ≤ σ 0 3) (hc : ¬ σ 165 (σ 162 9) = 1) (h : Z (xfl σ 2 (σ 167 (σ 162 9)))) : xR_taken d σ Q Z := xR_taken_r (fun _ => xR_name_n h0 h1 h2 h3 hc h)
theorem m_isSignHere_y (h0 : 0 ≤ σ 279 67) (h1 : σ 279 67 < 4001) (hc : σ 283 (σ 279 67) = 3 ∧ σ 285 (σ 279 67) = c) (h : Q 1 σ) : m_isSignHere d c σ Q := m_isSignHere_r (fun _ => ⟨⟨h0, h1⟩, fun _ => ⟨⟨h0, h1⟩, fun _ => h, fun q => absurd hc.2 q⟩, fun q => absurd hc.1 q⟩)
theorem m_isSignHere_n (h0 : 0 ≤ σ 279 67) (h1 : σ 279 67 < 4001) (hc : ¬ (σ 283 (σ 279 67) = 3 ∧ σ 285 (σ 279 67) = c)) (h : Q 0 σ) : m_isSignHere d c σ Q := m_isSignHere_r (fun _ => ⟨⟨h0, h1⟩, fun q => ⟨⟨h0, h1⟩, fun z => absurd ⟨q, z⟩ hc, fun _ => h⟩, fun _ => h⟩)
theorem m_isWord_y (h0 : 0 ≤ σ 279 67) (h1 : σ 279 67 < 4001) (hc : σ 283 (σ 279 67) = 4 ∧ σ 285 (σ 279 67) = c) (h : Q 1 σ) : m_isWord d c σ Q := m_isWord_r (fun _ => ⟨⟨h0, h1⟩, fun _ => ⟨⟨h0, h1⟩, fun _ => h, fun q => absurd hc.2 q⟩, fun q => absurd hc.1 q⟩)
theorem m_isWord_n (h0 : 0 ≤ σ 279 67) (h1 : σ 279 67 < 4001) (hc : ¬ (σ 283 (σ 279 67) = 4 ∧ σ 285 (σ 279 67) = c)) (h : Q 0 σ) : m_isWord d c σ Q := m_isWord_r (fun _ => ⟨⟨h0, h1⟩, fun q => ⟨⟨h0, h1⟩, fun z => absurd ⟨q, z⟩ hc, fun _ => h⟩, fun _ => h⟩)
theorem m_cant_c (hw : σ 279 13 = 0) (h0 : 0 ≤ σ 279 67) (h1 : σ 279 67 < 4001) (h : Q 0 (mfl σ 2 (σ 284 (σ 279 67)))) : m_cant d σ Q := m_cant_r (fun _ => ⟨⟨h0, h1⟩, m_fault0_c hw h⟩)
theorem m_cant_w (hw : σ 279 13 = 1) (h0 : 0 ≤ σ 279 67) (h1 : σ 279 67 < 4001) (h : Q 0 σ) : m_cant d σ Q := m_cant_r (fun _ => ⟨⟨h0, h1⟩, m_fault0_w hw h⟩)
theorem m_maySign_y (hw : σ 279 13 = 0) (h0 : 0 ≤ σ 279 67) (h1 : σ 279 67 < 4001) (hc : σ 283 (σ 279 67) = 3 ∧ σ 285 (σ 279 67) = c) (h : Q 1 (madv σ)) : m_maySign d c σ Q := m_maySign_r (fun _ => ⟨fun _ => m_isSignHere_y h0 h1 hc ⟨fun q => absurd q (by decide), fun _ => ⟨by unfold ok32; omega, h⟩⟩, fun q => absurd hw q⟩)
theorem m_maySign_n (hw : σ 279 13 = 0) (h0 : 0 ≤ σ 279 67) (h1 : σ 279 67 < 4001) (hc : ¬ (σ 283 (σ 279 67) = 3 ∧ σ 285 (σ 279 67) = c)) (h : Q 0 σ) : m_maySign d c σ Q := m_maySign_r (fun _ => ⟨fun _ => m_isSignHere_n h0 h1 hc ⟨fun _ => h, fun q => absurd rfl q⟩, fun q => absurd hw q⟩)
theorem m_maySign_w (hw : σ 279 13 = 1) (h : Q 0 σ) : m_maySign d c σ Q := m_maySign_r (fun _ => ⟨fun q => by omega, fun _ => h⟩)
theorem m_mayWord_y (hw : σ 279 13 = 0) (h0 : 0 ≤ σ 279 67) (h1 : σ 279 67 < 4001) (hc : σ 283 (σ 279 67) = 4 ∧ σ 285 (σ 279 67) = c) (h : Q 1 (madv σ)) : m_mayWord d c σ Q := m_mayWord_r (fun _ => ⟨fun _ => m_isWord_y h0 h1 hc ⟨fun q => absurd q (by decide), fun _ => ⟨by unfold ok32; omega, h⟩⟩, fun q => absurd hw q⟩)
theorem m_mayWord_n (hw : σ 279 13 = 0) (h0 : 0 ≤ σ 279 67) (h1 : σ 279 67 < 4001) (hc : ¬ (σ 283 (σ 279 67) = 4 ∧ σ 285 (σ 279 67) = c)) (h : Q 0 σ) : m_mayWord d c σ Q := m_mayWord_r (fun _ => ⟨fun _ => m_isWord_n h0 h1 hc ⟨fun _ => h, fun q => absurd rfl q⟩, fun q => absurd hw q⟩)
theorem m_mayWord_w (hw : σ 279 13 = 1) (h : Q 0 σ) : m_mayWord d c σ Q := m_mayWord_r (fun _ => ⟨fun q => by omega, fun _ => h⟩)
theorem m_wantSign_y (hw : σ 279 13 = 0) (h0 : 0 ≤ σ 279 67) (h1 : σ 279 67 < 4001) (hc : σ 283 (σ 279 67) = 3 ∧ σ 285 (σ 279 67) = c) (h : Q 0 (madv σ)) : m_wantSign d c σ Q := m_wantSign_r (fun _ => ⟨fun _ => m_isSignHere_y h0 h1 hc ⟨fun q => absurd q (by decide), fun _ => ⟨by unfold ok32; omega, h⟩⟩, fun q => absurd hw q⟩)
theorem m_wantSign_n (hw : σ 279 13 = 0) (h0 : 0 ≤ σ 279 67) (h1 : σ 279 67 < 4001) (hc : ¬ (σ 283 (σ 279 67) = 3 ∧ σ 285 (σ 279 67) = c)) (h : Q 0 (mfl σ 2 (σ 284 (σ 279 67)))) : m_wantSign d c σ Q := m_wantSign_r (fun _ => ⟨fun _ => m_isSignHere_n h0 h1 hc ⟨fun _ => m_cant_c hw h0 h1 h, fun q => absurd rfl q⟩, fun q => absurd hw q⟩)
theorem m_wantSign_w (hw : σ 279 13 = 1) (h : Q 0 σ) : m_wantSign d c σ Q := m_wantSign_r (fun _ => ⟨fun q => by omega, fun _ => h⟩)
theorem m_wantName_y (hw : σ 279 13 = 0) (h0 : 0 ≤ σ 279 67) (h1 : σ 279 67 < 4001) (hc : σ 283 (σ 279 67) = 0) (h : Q (σ 285 (σ 279 67)) (madv σ)) : m_wantName d σ Q := by
  refine m_wantName_r (fun _ => ⟨fun _ => ⟨⟨h0, h1⟩, fun _ => ⟨by unfold ok32; omega, by unfold ok32; omega, ⟨by omega, by omega⟩, ?_⟩, fun q => absurd hc q⟩, fun q => absurd hw q⟩)
  rw [show σ 279 67 + 1 - 1 = σ 279 67 by omega]
  exact h
theorem m_wantName_n (hw : σ 279 13 = 0) (h0 : 0 ≤ σ 279 67) (h1 : σ 279 67 < 4001) (hc : ¬ σ 283 (σ 279 67) = 0) (h : Q 0 (mfl σ 2 (σ 284 (σ 279 67)))) : m_wantName d σ Q := m_wantName_r (fun _ => ⟨fun _ => ⟨⟨h0, h1⟩, fun q => absurd q hc, fun _ => m_cant_c hw h0 h1 h⟩, fun q => absurd hw q⟩)
theorem m_wantName_w (hw : σ 279 13 = 1) (h : Q 0 σ) : m_wantName d σ Q := m_wantName_r (fun _ => ⟨fun q => by omega, fun _ => h⟩)
end RX
/-! ### where both stand -/
/-- what holds at the parse's start -/
def P0 (j : Int) (x0 m0 : mM) : Prop := LexR j x0 m0 ∧ 1 ≤ x0 0 2 ∧ 6 ≤ x0 0 3 ∧ m0 279 13 = 0
/-- both stand at the same lexeme; nothing is wrong -/
def PS (j : Int) (x0 m0 σx σm : mM) : Prop := fr LXp [] x0 σx ∧ fr LMp SMp m0 σm ∧ σm 279 13 = m0 279 13 ∧ σx 162 9 = σm 279 67 ∧ 0 ≤ σm 279 67 ∧ σm 279 67 ≤ j
def PF : mM → mM → mM → mM → Prop := FR (0 :: 161 :: LXp) LMp (11 :: 12 :: 13 :: SMp)
section RS
variable {j : Int} {x0 m0 σx σm : mM} {c w : Int}
theorem xadv_v {σ : mM} : xadv σ 162 9 = σ 162 9 + 1 ∧ fr [162] [] σ (xadv σ) ∧ ∀ q, q ≠ 9 → xadv σ 162 q = σ 162 q := ⟨mse, fr_ms (by decide) (by decide), fun q h => msi h⟩
theorem madv_v {σ : mM} : madv σ 279 67 = σ 279 67 + 1 ∧ fr [] [67] σ (madv σ) := ⟨mse, fr_mm (by decide)⟩
theorem PS_lex (h0 : P0 j x0 m0) (h : PS j x0 m0 σx σm) : (∀ a, a ∈ [165, 166, 167, 168] → σx a = x0 a) ∧ (∀ a, a ∈ [283, 284, 285] → σm a = m0 a) ∧ σx 0 = x0 0 := by
  refine ⟨fun a ha => ?_, fun a ha => ?_, h.1.1 0 (by decide) (by decide)⟩
  · rcases (by simpa using ha : a = 165 ∨ a = 166 ∨ a = 167 ∨ a = 168) with rfl | rfl | rfl | rfl <;> exact h.1.1 _ (by decide) (by decide)
  · rcases (by simpa using ha : a = 283 ∨ a = 284 ∨ a = 285) with rfl | rfl | rfl <;> exact h.2.1.1 _ (by decide) (by decide)
/-- what the lexeme at hand is, on both sides -/
theorem PS_cur (h0 : P0 j x0 m0) (h : PS j x0 m0 σx σm) : σx 167 (σx 162 9) = σm 284 (σm 279 67) ∧ ((σm 279 67 < j ∧ ((σm 283 (σm 279 67) = 0 ∧ σx 165 (σx 162 9) = 1 ∧ nmR (σx 168 (σx 162 9)) (σm 285 (σm 279 67)) ∧ σm 285 (σm 279 67) ≠ 0) ∨ (σm 283 (σm 279 67) = 1 ∧ σx 165 (σx 162 9) = 2 ∧ σx 166 (σx 162 9) = σm 285 (σm 279 67) ∧ 0 ≤ σm 285 (σm 279 67) ∧ σm 285 (σm 279 67) ≤ 999999999) ∨ (σm 283 (σm 279 67) = 2 ∧ σx 165 (σx 162 9) = 3 ∧ nmR (σx 168 (σx 162 9)) (σm 285 (σm 279 67))) ∨ (σm 283 (σm 279 67) = 3 ∧ σx 165 (σx 162 9) = 4 ∧ σx 166 (σx 162 9) = σm 285 (σm 279 67)) ∨ (σm 283 (σm 279 67) = 4 ∧ σx 165 (σx 162 9) = 5 ∧ σx 166 (σx 162 9) = σm 285 (σm 279 67) ∧ 0 ≤ σm 285 (σm 279 67) ∧ σm 285 (σm 279 67) ≤ 30))) ∨ (σm 279 67 = j ∧ σm 283 (σm 279 67) = 5 ∧ σx 165 (σx 162 9) = 0)) := by
  obtain ⟨e1, e2, -⟩ := PS_lex h0 h
  obtain ⟨⟨j1, j2, j3, j4, j5, j6⟩, -, -⟩ := h0
  obtain ⟨-, -, -, a4, a5, a6⟩ := h
  rw [a4, e1 165 (by decide), e1 166 (by decide), e1 167 (by decide), e1 168 (by decide), e2 283 (by decide), e2 284 (by decide), e2 285 (by decide)]
  rcases Int.lt_or_eq_of_le a6 with q | q
  · have := j3 _ a5 q
    exact ⟨this.1, Or.inl ⟨q, this.2⟩⟩
  · rw [q]
    exact ⟨j6, Or.inr ⟨rfl, j5, j4⟩⟩
theorem PS_b (h0 : P0 j x0 m0) (h : PS j x0 m0 σx σm) : 0 ≤ σx 162 9 ∧ σx 162 9 < 4001 ∧ 0 ≤ σm 279 67 ∧ σm 279 67 < 4001 ∧ 1 ≤ σx 0 2 ∧ 6 ≤ σx 0 3 := by
  have e0 := (PS_lex h0 h).2.2
  obtain ⟨⟨j1, j2, -⟩, b2, b3⟩ := h0
  obtain ⟨-, -, -, a4, a5, a6⟩ := h
  rw [e0]
  omega
theorem PS_sg (h0 : P0 j x0 m0) (h : PS j x0 m0 σx σm) (c : Int) : (σx 165 (σx 162 9) = 4 ∧ σx 166 (σx 162 9) = c ↔ σm 283 (σm 279 67) = 3 ∧ σm 285 (σm 279 67) = c) := by
  obtain ⟨-, h | h⟩ := PS_cur h0 h
  · rcases h.2 with q | q | q | q | q <;> omega
  · omega
theorem PS_wd (h0 : P0 j x0 m0) (h : PS j x0 m0 σx σm) (c : Int) : (σx 165 (σx 162 9) = 5 ∧ σx 166 (σx 162 9) = c ↔ σm 283 (σm 279 67) = 4 ∧ σm 285 (σm 279 67) = c) := by
  obtain ⟨-, h | h⟩ := PS_cur h0 h
  · rcases h.2 with q | q | q | q | q <;> omega
  · omega
theorem PS_nm (h0 : P0 j x0 m0) (h : PS j x0 m0 σx σm) : (σx 165 (σx 162 9) = 1 ↔ σm 283 (σm 279 67) = 0) ∧ (σm 283 (σm 279 67) = 0 → nmR (σx 168 (σx 162 9)) (σm 285 (σm 279 67)) ∧ σm 285 (σm 279 67) ≠ 0) := by
  obtain ⟨-, h | h⟩ := PS_cur h0 h
  · rcases h.2 with q | q | q | q | q
    · exact ⟨by omega, fun _ => ⟨q.2.2.1, q.2.2.2⟩⟩
    all_goals exact ⟨by omega, fun z => by omega⟩
  · exact ⟨by omega, fun z => by omega⟩
theorem PS_lt (h0 : P0 j x0 m0) (h : PS j x0 m0 σx σm) (hc : ¬ σm 283 (σm 279 67) = 5) : σm 279 67 < j := by
  obtain ⟨-, h | h⟩ := PS_cur h0 h
  · exact h.1
  · omega
theorem PS_mv {σx' σm' : mM} (h : PS j x0 m0 σx σm) (hx : fr LXp [] σx σx') (hm : fr LMp SMp σm σm') (he : σx' 162 9 = σm' 279 67) (h1 : 0 ≤ σm' 279 67) (h2 : σm' 279 67 ≤ j) : PS j x0 m0 σx' σm' := by
  obtain ⟨a1, a2, a3, a4, a5, a6⟩ := h
  exact ⟨fr_t a1 hx, fr_t a2 hm, by rw [hm.2 13 (by decide)]; exact a3, he, h1, h2⟩
theorem PS_adv (h : PS j x0 m0 σx σm) (hl : σm 279 67 < j) : PS j x0 m0 (xadv σx) (madv σm) := by
  have a := h.2.2.2
  exact PS_mv h (fr_up xadv_v.2.1 (by decide) (by decide)) (fr_up madv_v.2 (by decide) (by decide)) (by rw [xadv_v.1, madv_v.1]; omega) (by rw [madv_v.1]; omega) (by rw [madv_v.1]; omega)
/-- both are at fault -/
theorem PF_of {kd pl : Int} {s' : mM} (a1 : fr LXp [] x0 σx) (a2 : fr LMp SMp m0 σm) (hs : fr LMp SMp (mfl σm kd pl) s') : PF x0 m0 (xfl σx kd pl) s' := by
  have e0 : σx 0 = x0 0 := a1.1 0 (by decide) (by decide)
  have v := @mfl_v σm kd pl
  have u := @xfl_v σx kd pl
  refine ⟨⟨fun a ha h9 => ?_, fun q _ => ?_⟩, ?_, ?_, ?_, ?_, ?_, ?_, ?_⟩
  · have h1 : a ≠ 0 := fun q => ha (by rw [q]; exact List.mem_cons_self)
    have h2 : a ≠ 161 := fun q => ha (by rw [q]; exact List.mem_cons_of_mem _ List.mem_cons_self)
    rw [u.2.2.2.2.2 a h1 h2]
    exact a1.1 a (fun q => ha (List.mem_cons_of_mem _ (List.mem_cons_of_mem _ q))) h9
  · rw [u.2.2.2.2.2 279 (by decide) (by decide)]
    exact a1.2 q (by simp)
  · exact fr_t (fr_up a2 (fun _ q => q) (by decide)) (fr_t (fr_up v.2.2.2 (by decide) (by decide)) (fr_up hs (fun _ q => q) (by decide)))
  · rw [u.1, hs.2 11 (by decide), v.2.1]
  · rw [u.2.1, hs.2 12 (by decide), v.2.2.1]
  · rw [hs.2 13 (by decide), v.1]
  · rw [u.2.2.1, e0]
  · rw [u.2.2.2.1, e0]
  · rw [u.2.2.2.2.1, e0]
theorem PS_fail {kd pl : Int} {s' : mM} (h : PS j x0 m0 σx σm) (hs : fr LMp SMp (mfl σm kd pl) s') : PF x0 m0 (xfl σx kd pl) s' := PF_of h.1 h.2.1 hs
theorem PS_w (h0 : P0 j x0 m0) (h : PS j x0 m0 σx σm) : σm 279 13 = 0 := h.2.2.1.trans h0.2.2.2
theorem PF_go {s s' s'' : mM} (h : PF x0 m0 s s') (hs : fr LMp SMp s' s'') : PF x0 m0 s s'' := by
  obtain ⟨a1, a2, a3, a4, a5, a6, a7, a8⟩ := h
  exact ⟨a1, fr_t a2 (fr_up hs (fun _ q => q) (by decide)), by rw [hs.2 11 (by decide)]; exact a3, by rw [hs.2 12 (by decide)]; exact a4, by rw [hs.2 13 (by decide)]; exact a5, a6, a7, a8⟩
theorem PF_w {s s' : mM} (h : PF x0 m0 s s') : s' 279 13 = 1 := h.2.2.2.2.1
end RS
