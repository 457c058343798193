/-! reading: names that are taken, names that are new, values -/
set_option maxRecDepth 100000
set_option maxHeartbeats 4000000
/-- names of a table: the same on both sides -/
def nmT (ax am : Nat) (n : Int) (σx σm : mM) : Prop := ∀ i, 0 ≤ i → i < n → nmR (σx ax i) (σm am i)
def TBL (σx σm : mM) : Prop := (σx 171 0 = σm 279 15 ∧ 0 ≤ σm 279 15 ∧ σm 279 15 ≤ 4 ∧ nmT 172 286 (σm 279 15) σx σm) ∧ (σx 170 3 = σm 279 24 ∧ 0 ≤ σm 279 24 ∧ σm 279 24 ≤ 12 ∧ nmT 187 294 (σm 279 24) σx σm) ∧ (σx 170 13 = σm 279 34 ∧ 0 ≤ σm 279 34 ∧ σm 279 34 ≤ 6 ∧ nmT 196 303 (σm 279 34) σx σm) ∧ (σx 170 16 = σm 279 37 ∧ 0 ≤ σm 279 37 ∧ σm 279 37 ≤ 12 ∧ nmT 198 305 (σm 279 37) σx σm)
theorem TBL_fr {LX LM : List Nat} {S : List Int} {σx σm σx' σm' : mM} (hx : fr LX [] σx σx') (hm : fr LM S σm σm') (h1 : 170 ∉ LX ∧ 171 ∉ LX ∧ 172 ∉ LX ∧ 187 ∉ LX ∧ 196 ∉ LX ∧ 198 ∉ LX) (h2 : 286 ∉ LM ∧ 294 ∉ LM ∧ 303 ∉ LM ∧ 305 ∉ LM) (h3 : (15 : Int) ∉ S ∧ (24 : Int) ∉ S ∧ (34 : Int) ∉ S ∧ (37 : Int) ∉ S) (h : TBL σx σm) : TBL σx' σm' := by
  unfold TBL nmT at h ⊢
  rw [hx.1 170 h1.1 (by decide), hx.1 171 h1.2.1 (by decide), hx.1 172 h1.2.2.1 (by decide), hx.1 187 h1.2.2.2.1 (by decide), hx.1 196 h1.2.2.2.2.1 (by decide), hx.1 198 h1.2.2.2.2.2 (by decide), hm.1 286 h2.1 (by decide), hm.1 294 h2.2.1 (by decide), hm.1 303 h2.2.2.1 (by decide), hm.1 305 h2.2.2.2 (by decide), hm.2 15 h3.1, hm.2 24 h3.2.1, hm.2 34 h3.2.2.1, hm.2 37 h3.2.2.2]
  exact h
theorem fst_eq {f g : Int → Int} {vx vm n r r' : Int} (hT : ∀ i, 0 ≤ i → i < n → nmR (f i) (g i)) (hv : nmR vx vm) (h : isFst (fun i => f i = vx) n r) (h' : isFst (fun i => g i = vm) n r') : r = r' :=
  isFst_u (isFst_c (fun i a b => nmR_iff (hT i a b) hv) h) h'
section RD
variable {d : Nat} {σx σm : mM} {vx vm : Int}
theorem find_o (h : TBL σx σm) (hv : nmR vx vm) : ∃ r, isFst (fun i => σm 286 i = vm) (σm 279 15) r ∧ (∀ Q : mA, Q r σx → xO_find d vx σx Q) ∧ (∀ Q : mA, Q r σm → m_orderOf d vm σm Q) := by
  obtain ⟨⟨a1, a2, a3, a4⟩, -⟩ := h
  obtain ⟨r, r1, r2⟩ := xO_find_c (d := d) (v := vx) (σ := σx) (by omega)
  obtain ⟨s, s1, s2⟩ := m_orderOf_c (d := d) (v := vm) (σ := σm) a3
  rw [a1] at r1
  have := fst_eq a4 hv r1 s1
  subst this
  exact ⟨r, s1, r2, s2⟩
theorem find_k (h : TBL σx σm) (hv : nmR vx vm) : ∃ r, isFst (fun i => σm 294 i = vm) (σm 279 24) r ∧ (∀ Q : mA, Q r σx → xP_kind d vx σx Q) ∧ (∀ Q : mA, Q r σm → m_kindOf d vm σm Q) := by
  obtain ⟨-, ⟨a1, a2, a3, a4⟩, -⟩ := h
  obtain ⟨r, r1, r2⟩ := xP_kind_c (d := d) (v := vx) (σ := σx) (by omega)
  obtain ⟨s, s1, s2⟩ := m_kindOf_c (d := d) (v := vm) (σ := σm) a3
  rw [a1] at r1
  have := fst_eq a4 hv r1 s1
  subst this
  exact ⟨r, s1, r2, s2⟩
theorem find_c (h : TBL σx σm) (hv : nmR vx vm) : ∃ r, isFst (fun i => σm 305 i = vm) (σm 279 37) r ∧ (∀ Q : mA, Q r σx → xP_cls d vx σx Q) ∧ (∀ Q : mA, Q r σm → m_classOf d vm σm Q) := by
  obtain ⟨-, -, -, a1, a2, a3, a4⟩ := h
  obtain ⟨r, r1, r2⟩ := xP_cls_c (d := d) (v := vx) (σ := σx) (by omega)
  obtain ⟨s, s1, s2⟩ := m_classOf_c (d := d) (v := vm) (σ := σm) a3
  rw [a1] at r1
  have := fst_eq a4 hv r1 s1
  subst this
  exact ⟨r, s1, r2, s2⟩
theorem taken_c (h : TBL σx σm) (hv : nmR vx vm) : ∃ t : Int, (t = 0 ∨ t = 1) ∧ (∀ Q : mA, Q t σx → xP_isTaken d vx σx Q) ∧ (∀ Q : mA, Q t σm → m_isTaken d vm σm Q) := by
  obtain ⟨ro, o1, o2, o3⟩ := find_o (d := d) h hv
  obtain ⟨rk, k1, k2, k3⟩ := find_k (d := d) h hv
  obtain ⟨rc, c1, c2, c3⟩ := find_c (d := d) h hv
  obtain ⟨-, -, ⟨a1, a2, a3, a4⟩, -⟩ := h
  obtain ⟨sm, s1, s2⟩ := m_makerOf_c (d := d) (v := vm) (σ := σm) a3
  obtain ⟨rm, r1, r2⟩ := fst_k (T := fun i Q => xP_isTaken_2 d vx i σx Q) (K := fun i Q => (i = σx 170 13 → xO_find d vx σx (fun r1 s1 => ((r1 = (-1) → xP_kind d vx s1 (fun r2 s2 => ((r2 = (-1) → xP_cls d vx s2 (fun r3 s3 => ((r3 = (-1) → Q 0 s3) ∧ (¬ r3 = (-1) → Q 1 s3)))) ∧ (¬ r2 = (-1) → Q 1 s2)))) ∧ (¬ r1 = (-1) → Q 1 s1)))) ∧ (i < σx 170 13 → Q 1 σx)) (P := fun i => σx 196 i = vx) (n := σx 170 13) (by omega) (by
    intro i Q h0 hn hs h9
    refine xP_isTaken_2_r (fun _ => ⟨fun q => ?_, fun q => ⟨⟨h0, by omega⟩, fun z => ((hs q).1 z).2 q, fun z => ⟨by unfold ok32; omega, (hs q).2 z⟩⟩⟩)
    exact (hn (by omega)).1 rfl)
  rw [a1] at r1
  have := fst_eq a4 hv r1 s1
  subst this
  have bo := isFst_b o1
  have bk := isFst_b k1
  have bc := isFst_b c1
  have bm := isFst_b s1
  refine ⟨if ro = -1 ∧ rk = -1 ∧ rc = -1 ∧ rm = -1 then 0 else 1, by split <;> simp, fun Q hQ => xP_isTaken_r (fun _ => r2 Q ?_), fun Q hQ => ?_⟩
  · by_cases z : rm = -1
    · rw [if_pos z]
      refine ⟨fun _ => o2 _ ⟨fun q1 => k2 _ ⟨fun q2 => c2 _ ⟨fun q3 => ?_, fun q3 => ?_⟩, fun q2 => ?_⟩, fun q1 => ?_⟩, fun q => by omega⟩
      · rw [if_pos ⟨q1, q2, q3, z⟩] at hQ; exact hQ
      · rw [if_neg (fun y => q3 y.2.2.1)] at hQ; exact hQ
      · rw [if_neg (fun y => q2 y.2.1)] at hQ; exact hQ
      · rw [if_neg (fun y => q1 y.1)] at hQ; exact hQ
    · rw [if_neg z]
      rw [if_neg (fun y => z y.2.2.2)] at hQ
      exact ⟨fun q => by omega, fun _ => hQ⟩
  · refine m_isTaken_r (fun _ => o3 _ ⟨fun q1 => ?_, fun q1 => k3 _ ⟨fun q2 => ?_, fun q2 => s2 _ ⟨fun q3 => ?_, fun q3 => c3 _ ⟨fun q4 => ?_, fun q4 => ?_⟩⟩⟩⟩)
    · rw [if_neg (fun y => by omega)] at hQ; exact hQ
    · rw [if_neg (fun y => by omega)] at hQ; exact hQ
    · rw [if_neg (fun y => by omega)] at hQ; exact hQ
    · rw [if_pos ⟨by omega, by omega, by omega, by omega⟩] at hQ; exact hQ
    · rw [if_neg (fun y => by omega)] at hQ; exact hQ
end RD
section RN
variable {d : Nat} {j : Int} {x0 m0 σx σm : mM}
/-- a new name -/
theorem fresh_par {cx cm most : Int} (h0 : P0 j x0 m0) (h : PS j x0 m0 σx σm) (hT : TBL σx σm) (hc : cx = cm) (hm : cm ≤ most) :
    Par (fun Q Z => xR_fresh d cx most σx Q Z) (fun Q => m_newName d cm most σm Q)
      (fun r s r' s' => s = xadv σx ∧ s' = madv σm ∧ r = σx 168 (σx 162 9) ∧ r' = σm 285 (σm 279 67) ∧ nmR r r' ∧ r' ≠ 0 ∧ cm < most ∧ σm 279 67 < j) (PF x0 m0) := by
  obtain ⟨b1, b2, b3, b4, b5, b6⟩ := PS_b h0 h
  have hw := PS_w h0 h
  have hp := (PS_cur h0 h).1
  obtain ⟨n1, n2⟩ := PS_nm h0 h
  by_cases hn : σm 283 (σm 279 67) = 0
  · obtain ⟨hnm, hnz⟩ := n2 hn
    obtain ⟨t, t0, t1, t2⟩ := taken_c (d := d) hT hnm
    have hTm : TBL σx (madv σm) := TBL_fr (LX := []) fr_rf madv_v.2 (by decide) (by decide) (by decide) hT
    obtain ⟨u, u0, u1, u2⟩ := taken_c (d := d) hTm hnm
    have ew : madv σm 279 13 = 0 := by rw [madv_v.2.2 13 (by decide)]; exact hw
    have e284 : madv σm 284 (σm 279 67) = σm 284 (σm 279 67) := by rw [madv_v.2.1 284 (by decide) (by decide)]
    have fm : fr LMp SMp m0 (madv σm) := fr_t h.2.1 (fr_up madv_v.2 (by decide) (by decide))
    have hlt := PS_lt h0 h (by omega)
    rcases u0 with hu | hu
    · subst hu
      by_cases hcm : cm = most
      · have v := @mfl_v (madv σm) 6 (σm 284 (σm 279 67))
        refine Par_f (s := xfl σx 6 (σm 284 (σm 279 67))) (r' := σm 285 (σm 279 67)) (s' := mfl (madv σm) 6 (σm 284 (σm 279 67))) (fun Q Z q => ?_) (fun Q q => ?_) (PF_of h.1 fm fr_rf)
        · refine xR_fresh_r (fun _ => xR_name_y b1 b2 (n1.mpr hn) (u1 _ ⟨fun _ => ?_, fun z => absurd rfl z⟩))
          refine xR_fresh_22_r (fun _ => xR_must_1 ⟨fun _ => xR_must_0 b1 b2 b5 b6 (by rw [hp]; exact q), fun z => by omega⟩)
        · refine m_newName_r (fun _ l hl => m_wantName_y hw b3 b4 hn ⟨fun _ => u2 _ ⟨fun _ => ⟨fun _ => ⟨by omega, ?_⟩, fun z => absurd hcm z⟩, fun z => absurd rfl z⟩, fun z => absurd ew z⟩)
          rw [hl, e284]
          exact m_fault0_c ew q
      · refine Par_n (r := σx 168 (σx 162 9)) (s := xadv σx) (r' := σm 285 (σm 279 67)) (s' := madv σm) (fun Q Z q => ?_) (fun Q q => ?_) ⟨rfl, rfl, rfl, rfl, hnm, hnz, by omega, hlt⟩
        · refine xR_fresh_r (fun _ => xR_name_y b1 b2 (n1.mpr hn) (u1 _ ⟨fun _ => ?_, fun z => absurd rfl z⟩))
          refine xR_fresh_22_r (fun _ => xR_must_1 ⟨fun z => by omega, fun _ => xR_must_1 ⟨by unfold ok32; omega, q⟩⟩)
        · exact m_newName_r (fun _ l hl => m_wantName_y hw b3 b4 hn ⟨fun _ => u2 _ ⟨fun _ => ⟨fun z => absurd z hcm, fun _ => q⟩, fun z => absurd rfl z⟩, fun z => absurd ew z⟩)
    · subst hu
      have v := @mfl_v (madv σm) 3 (σm 284 (σm 279 67))
      refine Par_f (s := xfl σx 3 (σm 284 (σm 279 67))) (r' := σm 285 (σm 279 67)) (s' := mfl (madv σm) 3 (σm 284 (σm 279 67))) (fun Q Z q => ?_) (fun Q q => ?_) (PF_of h.1 fm fr_rf)
      · refine xR_fresh_r (fun _ => xR_name_y b1 b2 (n1.mpr hn) (u1 _ ⟨fun z => absurd z (by decide), fun _ => ?_⟩))
        exact xR_fresh_22_r (fun _ => xR_must_0 b1 b2 b5 b6 (by rw [hp]; exact q))
      · refine m_newName_r (fun _ l hl => m_wantName_y hw b3 b4 hn ⟨fun _ => u2 _ ⟨fun z => absurd z (by decide), fun _ => ⟨by omega, ?_⟩⟩, fun z => absurd ew z⟩)
        rw [hl, e284]
        exact m_fault0_c ew ⟨fun _ => ⟨by omega, m_fault0_w v.1 q⟩, fun _ => q⟩
  · refine Par_f (s := xfl σx 2 (σm 284 (σm 279 67))) (r' := 0) (s' := mfl σm 2 (σm 284 (σm 279 67))) (fun Q Z q => ?_) (fun Q q => ?_) (PS_fail h fr_rf)
    · exact xR_fresh_r (fun _ => xR_name_n b1 b2 b5 b6 (fun z => hn (n1.mp z)) (by rw [hp]; exact q))
    · have v := @mfl_v σm 2 (σm 284 (σm 279 67))
      exact m_newName_r (fun _ l hl => m_wantName_n hw b3 b4 hn ⟨fun z => by rw [v.1] at z; exact absurd z (by decide), fun _ => q⟩)
theorem m_newName_w {Q : mA} {a b : Int} {σ : mM} (hw : σ 279 13 = 1) (h : Q 0 σ) : m_newName d a b σ Q := m_newName_r (fun _ l hl => m_wantName_w hw ⟨fun z => by omega, fun _ => h⟩)
end RN
