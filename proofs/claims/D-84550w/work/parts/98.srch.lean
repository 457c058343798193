/-! the searches: what has a name; printed by tools/gensrch.py -/
set_option maxRecDepth 100000
set_option maxHeartbeats 4000000
/-- a loop that looks for the first place that fits, and answers by g -/
theorem fst_loopg {T : Int → mA → Prop} {P : Int → Prop} {n : Int} {σ : mM} (g : Int → Int) (hr : ∀ (i : Int) (Q : mA), 0 ≤ i → (n ≤ i → Q (-1) σ) → (i < n → (P i → Q (g i) σ) ∧ (¬ P i → T (i + 1) Q)) → T i Q) : ∃ r, isFst P n r ∧ ∀ Q : mA, Q (if r = -1 then -1 else g r) σ → T 0 Q := by
  have main : ∀ (k : Nat) (i : Int), 0 ≤ i → (n - i).toNat ≤ k → (∀ j, 0 ≤ j → j < i → ¬ P j) → ∃ r, isFst P n r ∧ ∀ Q : mA, Q (if r = -1 then -1 else g r) σ → T i Q := by
    intro k
    induction k with
    | zero =>
      intro i h0 hk hp
      exact ⟨-1, Or.inl ⟨rfl, fun j a b => hp j a (by omega)⟩, fun Q hQ => hr i Q h0 (fun _ => hQ) (fun q => by omega)⟩
    | succ k ih =>
      intro i h0 hk hp
      by_cases hn : n ≤ i
      · exact ⟨-1, Or.inl ⟨rfl, fun j a b => hp j a (by omega)⟩, fun Q hQ => hr i Q h0 (fun _ => hQ) (fun q => by omega)⟩
      · by_cases hP : P i
        · refine ⟨i, Or.inr ⟨h0, by omega, hP, hp⟩, fun Q hQ => hr i Q h0 (fun q => by omega) (fun _ => ⟨fun _ => ?_, fun q => absurd hP q⟩)⟩
          rw [if_neg (by omega)] at hQ
          exact hQ
        · obtain ⟨r, h1, h2⟩ := ih (i + 1) (by omega) (by omega) (fun j a b => by
            by_cases e : j = i
            · rw [e]; exact hP
            · exact hp j a (by omega))
          exact ⟨r, h1, fun Q hQ => hr i Q h0 (fun q => by omega) (fun _ => ⟨fun q => absurd q hP, fun _ => h2 Q hQ⟩)⟩
  exact main _ 0 (by omega) (Nat.le_refl _) (fun j a b => by omega)
theorem xO_find_c {d : Nat} {v : Int} {σ : mM} (hm : σ 171 0 ≤ 4) : ∃ r, isFst (fun i => σ 172 i = v) (σ 171 0) r ∧ ∀ Q : mA, Q r σ → xO_find d v σ Q := by
  obtain ⟨r, hr, hk⟩ := fst_loop (T := fun i Q => xO_find_2 d v i σ Q) (P := fun i => σ 172 i = v) (n := σ 171 0) (σ := σ) (by
    intro i Q h0 he hs
    exact xO_find_2_r (fun _ => ⟨he, fun q => ⟨⟨h0, by omega⟩, (hs q).1, fun z => ⟨by unfold ok32; omega, (hs q).2 z⟩⟩⟩))
  exact ⟨r, hr, fun Q hQ => xO_find_r (fun _ => hk Q hQ)⟩
theorem xP_kind_c {d : Nat} {v : Int} {σ : mM} (hm : σ 170 3 ≤ 12) : ∃ r, isFst (fun i => σ 187 i = v) (σ 170 3) r ∧ ∀ Q : mA, Q r σ → xP_kind d v σ Q := by
  obtain ⟨r, hr, hk⟩ := fst_loop (T := fun i Q => xP_kind_2 d v i σ Q) (P := fun i => σ 187 i = v) (n := σ 170 3) (σ := σ) (by
    intro i Q h0 he hs
    exact xP_kind_2_r (fun _ => ⟨he, fun q => ⟨⟨h0, by omega⟩, (hs q).1, fun z => ⟨by unfold ok32; omega, (hs q).2 z⟩⟩⟩))
  exact ⟨r, hr, fun Q hQ => xP_kind_r (fun _ => hk Q hQ)⟩
theorem xP_cls_c {d : Nat} {v : Int} {σ : mM} (hm : σ 170 16 ≤ 12) : ∃ r, isFst (fun i => σ 198 i = v) (σ 170 16) r ∧ ∀ Q : mA, Q r σ → xP_cls d v σ Q := by
  obtain ⟨r, hr, hk⟩ := fst_loop (T := fun i Q => xP_cls_2 d v i σ Q) (P := fun i => σ 198 i = v) (n := σ 170 16) (σ := σ) (by
    intro i Q h0 he hs
    exact xP_cls_2_r (fun _ => ⟨he, fun q => ⟨⟨h0, by omega⟩, (hs q).1, fun z => ⟨by unfold ok32; omega, (hs q).2 z⟩⟩⟩))
  exact ⟨r, hr, fun Q hQ => xP_cls_r (fun _ => hk Q hQ)⟩
theorem m_orderOf_c {d : Nat} {v : Int} {σ : mM} (hm : σ 279 15 ≤ 4) : ∃ r, isFst (fun i => σ 286 i = v) (σ 279 15) r ∧ ∀ Q : mA, Q r σ → m_orderOf d v σ Q := by
  obtain ⟨r, hr, hk⟩ := fst_loop (T := fun i Q => m_orderOf_2 d v i σ Q) (P := fun i => σ 286 i = v) (n := σ 279 15) (σ := σ) (by
    intro i Q h0 he hs
    exact m_orderOf_2_r (fun _ => ⟨he, fun q => ⟨⟨h0, by omega⟩, (hs q).1, fun z => ⟨by unfold ok32; omega, (hs q).2 z⟩⟩⟩))
  exact ⟨r, hr, fun Q hQ => m_orderOf_r (fun _ => hk Q hQ)⟩
theorem m_kindOf_c {d : Nat} {v : Int} {σ : mM} (hm : σ 279 24 ≤ 12) : ∃ r, isFst (fun i => σ 294 i = v) (σ 279 24) r ∧ ∀ Q : mA, Q r σ → m_kindOf d v σ Q := by
  obtain ⟨r, hr, hk⟩ := fst_loop (T := fun i Q => m_kindOf_2 d v i σ Q) (P := fun i => σ 294 i = v) (n := σ 279 24) (σ := σ) (by
    intro i Q h0 he hs
    exact m_kindOf_2_r (fun _ => ⟨he, fun q => ⟨⟨h0, by omega⟩, (hs q).1, fun z => ⟨by unfold ok32; omega, (hs q).2 z⟩⟩⟩))
  exact ⟨r, hr, fun Q hQ => m_kindOf_r (fun _ => hk Q hQ)⟩
theorem m_makerOf_c {d : Nat} {v : Int} {σ : mM} (hm : σ 279 34 ≤ 6) : ∃ r, isFst (fun i => σ 303 i = v) (σ 279 34) r ∧ ∀ Q : mA, Q r σ → m_makerOf d v σ Q := by
  obtain ⟨r, hr, hk⟩ := fst_loop (T := fun i Q => m_makerOf_2 d v i σ Q) (P := fun i => σ 303 i = v) (n := σ 279 34) (σ := σ) (by
    intro i Q h0 he hs
    exact m_makerOf_2_r (fun _ => ⟨he, fun q => ⟨⟨h0, by omega⟩, (hs q).1, fun z => ⟨by unfold ok32; omega, (hs q).2 z⟩⟩⟩))
  exact ⟨r, hr, fun Q hQ => m_makerOf_r (fun _ => hk Q hQ)⟩
theorem m_classOf_c {d : Nat} {v : Int} {σ : mM} (hm : σ 279 37 ≤ 12) : ∃ r, isFst (fun i => σ 305 i = v) (σ 279 37) r ∧ ∀ Q : mA, Q r σ → m_classOf d v σ Q := by
  obtain ⟨r, hr, hk⟩ := fst_loop (T := fun i Q => m_classOf_2 d v i σ Q) (P := fun i => σ 305 i = v) (n := σ 279 37) (σ := σ) (by
    intro i Q h0 he hs
    exact m_classOf_2_r (fun _ => ⟨he, fun q => ⟨⟨h0, by omega⟩, (hs q).1, fun z => ⟨by unfold ok32; omega, (hs q).2 z⟩⟩⟩))
  exact ⟨r, hr, fun Q hQ => m_classOf_r (fun _ => hk Q hQ)⟩
theorem xO_element_c {d : Nat} {o v : Int} {σ : mM} (h1 : 0 ≤ o) (h2 : o < 4) (hm : σ 173 o ≤ 12) : ∃ r, isFst (fun i => σ 176 (12 * o + i) = v) (σ 173 o) r ∧ ∀ Q : mA, Q r σ → xO_element d o v σ Q := by
  obtain ⟨r, hr, hk⟩ := fst_loop (T := fun i Q => xO_element_3 d o v i σ Q) (P := fun i => σ 176 (12 * o + i) = v) (n := σ 173 o) (σ := σ) (by
    intro i Q h0 he hs
    exact xO_element_3_r (fun _ => ⟨⟨h1, h2⟩, he, fun q => ⟨by unfold ok32; omega, by unfold ok32; omega, ⟨by omega, by omega⟩, (hs q).1, fun z => ⟨by unfold ok32; omega, (hs q).2 z⟩⟩⟩))
  exact ⟨r, hr, fun Q hQ => xO_element_r (fun _ => hk Q hQ)⟩
theorem m_elementOf_c {d : Nat} {o v : Int} {σ : mM} (h1 : 0 ≤ o) (h2 : o < 4) (hm : σ 287 o ≤ 12) : ∃ r, isFst (fun i => σ 288 (12 * o + i) = v) (σ 287 o) r ∧ ∀ Q : mA, Q r σ → m_elementOf d o v σ Q := by
  obtain ⟨r, hr, hk⟩ := fst_loop (T := fun i Q => m_elementOf_3 d o v i σ Q) (P := fun i => σ 288 (12 * o + i) = v) (n := σ 287 o) (σ := σ) (by
    intro i Q h0 he hs
    exact m_elementOf_3_r (fun _ => ⟨⟨h1, h2⟩, he, fun q => ⟨by unfold ok32; omega, by unfold ok32; omega, ⟨by omega, by omega⟩, (hs q).1, fun z => ⟨by unfold ok32; omega, (hs q).2 z⟩⟩⟩))
  exact ⟨r, hr, fun Q hQ => m_elementOf_r (fun _ => hk Q hQ)⟩
theorem xP_member_c {d : Nat} {o v : Int} {σ : mM} (h1 : 0 ≤ o) (h2 : o < 12) (hm : σ 190 o ≤ 4) : ∃ r, isFst (fun i => σ 188 (4 * o + i) = v) (σ 190 o) r ∧ ∀ Q : mA, Q r σ → xP_member d o v σ Q := by
  obtain ⟨r, hr, hk⟩ := fst_loop (T := fun i Q => xP_member_3 d o v i σ Q) (P := fun i => σ 188 (4 * o + i) = v) (n := σ 190 o) (σ := σ) (by
    intro i Q h0 he hs
    exact xP_member_3_r (fun _ => ⟨⟨h1, h2⟩, he, fun q => ⟨by unfold ok32; omega, by unfold ok32; omega, ⟨by omega, by omega⟩, (hs q).1, fun z => ⟨by unfold ok32; omega, (hs q).2 z⟩⟩⟩))
  exact ⟨r, hr, fun Q hQ => xP_member_r (fun _ => hk Q hQ)⟩
theorem m_memberOf_c {d : Nat} {o v : Int} {σ : mM} (h1 : 0 ≤ o) (h2 : o < 12) (hm : σ 295 o ≤ 4) : ∃ r, isFst (fun i => σ 296 (4 * o + i) = v) (σ 295 o) r ∧ ∀ Q : mA, Q r σ → m_memberOf d o v σ Q := by
  obtain ⟨r, hr, hk⟩ := fst_loop (T := fun i Q => m_memberOf_3 d o v i σ Q) (P := fun i => σ 296 (4 * o + i) = v) (n := σ 295 o) (σ := σ) (by
    intro i Q h0 he hs
    exact m_memberOf_3_r (fun _ => ⟨⟨h1, h2⟩, he, fun q => ⟨by unfold ok32; omega, by unfold ok32; omega, ⟨by omega, by omega⟩, (hs q).1, fun z => ⟨by unfold ok32; omega, (hs q).2 z⟩⟩⟩))
  exact ⟨r, hr, fun Q hQ => m_memberOf_r (fun _ => hk Q hQ)⟩
theorem xP_local_c {d : Nat} {o v : Int} {σ : mM} (h1 : 0 ≤ o) (h2 : o < 96) (hm : σ 206 o ≤ 8) : ∃ r, isFst (fun i => σ 208 (8 * o + i) = v) (σ 206 o) r ∧ ∀ Q : mA, Q r σ → xP_local d o v σ Q := by
  obtain ⟨r, hr, hk⟩ := fst_loop (T := fun i Q => xP_local_3 d o v i σ Q) (P := fun i => σ 208 (8 * o + i) = v) (n := σ 206 o) (σ := σ) (by
    intro i Q h0 he hs
    exact xP_local_3_r (fun _ => ⟨⟨h1, h2⟩, he, fun q => ⟨by unfold ok32; omega, by unfold ok32; omega, ⟨by omega, by omega⟩, (hs q).1, fun z => ⟨by unfold ok32; omega, (hs q).2 z⟩⟩⟩))
  exact ⟨r, hr, fun Q hQ => xP_local_r (fun _ => hk Q hQ)⟩
theorem m_localOf_c {d : Nat} {o v : Int} {σ : mM} (h1 : 0 ≤ o) (h2 : o < 96) (hm : σ 313 o ≤ 8) : ∃ r, isFst (fun i => σ 314 (8 * o + i) = v) (σ 313 o) r ∧ ∀ Q : mA, Q r σ → m_localOf d o v σ Q := by
  obtain ⟨r, hr, hk⟩ := fst_loop (T := fun i Q => m_localOf_3 d o v i σ Q) (P := fun i => σ 314 (8 * o + i) = v) (n := σ 313 o) (σ := σ) (by
    intro i Q h0 he hs
    exact m_localOf_3_r (fun _ => ⟨⟨h1, h2⟩, he, fun q => ⟨by unfold ok32; omega, by unfold ok32; omega, ⟨by omega, by omega⟩, (hs q).1, fun z => ⟨by unfold ok32; omega, (hs q).2 z⟩⟩⟩))
  exact ⟨r, hr, fun Q hQ => m_localOf_r (fun _ => hk Q hQ)⟩
theorem xP_field_c {d : Nat} {o v : Int} {σ : mM} (h1 : 0 ≤ o) (h2 : o < 12) (hm : σ 202 o ≤ 8) : ∃ r, isFst (fun i => σ 199 (8 * o + i) = v) (σ 202 o) r ∧ ∀ Q : mA, Q (if r = -1 then -1 else 8 * o + r) σ → xP_field d o v σ Q := by
  obtain ⟨r, hr, hk⟩ := fst_loopg (T := fun i Q => xP_field_3 d o v i σ Q) (P := fun i => σ 199 (8 * o + i) = v) (n := σ 202 o) (σ := σ) (fun i => 8 * o + i) (by
    intro i Q h0 he hs
    exact xP_field_3_r (fun _ => ⟨⟨h1, h2⟩, he, fun q => ⟨by unfold ok32; omega, by unfold ok32; omega, ⟨by omega, by omega⟩, fun z => ⟨by unfold ok32; omega, by unfold ok32; omega, (hs q).1 z⟩, fun z => ⟨by unfold ok32; omega, (hs q).2 z⟩⟩⟩))
  exact ⟨r, hr, fun Q hQ => xP_field_r (fun _ => hk Q hQ)⟩
theorem xP_method_c {d : Nat} {o v : Int} {σ : mM} (h1 : 0 ≤ o) (h2 : o < 12) (hm : σ 203 o ≤ 8) : ∃ r, isFst (fun i => σ 200 (8 * o + i) = v) (σ 203 o) r ∧ ∀ Q : mA, Q (if r = -1 then -1 else 8 * o + r) σ → xP_method d o v σ Q := by
  obtain ⟨r, hr, hk⟩ := fst_loopg (T := fun i Q => xP_method_3 d o v i σ Q) (P := fun i => σ 200 (8 * o + i) = v) (n := σ 203 o) (σ := σ) (fun i => 8 * o + i) (by
    intro i Q h0 he hs
    exact xP_method_3_r (fun _ => ⟨⟨h1, h2⟩, he, fun q => ⟨by unfold ok32; omega, by unfold ok32; omega, ⟨by omega, by omega⟩, fun z => ⟨by unfold ok32; omega, by unfold ok32; omega, (hs q).1 z⟩, fun z => ⟨by unfold ok32; omega, (hs q).2 z⟩⟩⟩))
  exact ⟨r, hr, fun Q hQ => xP_method_r (fun _ => hk Q hQ)⟩
