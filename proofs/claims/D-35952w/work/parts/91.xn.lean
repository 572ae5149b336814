/-! which exceptions the public methods throw -/
theorem xn_near {S : gs_T} {p1 : Int32} {p2 : Int32} {X : String} (h : xp_near S p1 p2 = .inl X) : X = "java/lang/IndexOutOfBoundsException" ∨ X = "java/lang/IllegalArgumentException" := by
  unfold xp_near at h
  by_cases c_1 : ((xf_isIn p1 0 23) = true) ∧ ((xf_isIn p2 0 23) = true)
  · rw [if_pos c_1] at h
    by_cases c_2 : ¬ (p1 = p2)
    · rw [if_pos c_2] at h
      cases h
    · rw [if_neg c_2] at h
      exact Or.inr ((Sum.inl.inj h).symm)
  · rw [if_neg c_1] at h
    exact Or.inl ((Sum.inl.inj h).symm)
theorem xn_alike {S : gs_T} {p1 : Int32} {p2 : Int32} {X : String} (h : xp_alike S p1 p2 = .inl X) : X = "java/lang/IndexOutOfBoundsException" ∨ X = "java/lang/IllegalArgumentException" := by
  unfold xp_alike at h
  by_cases c_1 : (xf_isIn p1 0 7) = true
  · rw [if_pos c_1] at h
    by_cases c_2 : (xf_isIn p2 0 7) = true
    · rw [if_pos c_2] at h
      by_cases c_3 : ¬ (p1 = p2)
      · rw [if_pos c_3] at h
        cases h
      · rw [if_neg c_3] at h
        exact Or.inr ((Sum.inl.inj h).symm)
    · rw [if_neg c_2] at h
      exact Or.inl ((Sum.inl.inj h).symm)
  · rw [if_neg c_1] at h
    exact Or.inl ((Sum.inl.inj h).symm)
theorem xn_rule {S : gs_T} {p1 : Int32} {p2 : Int32} {p3 : Int32} {X : String} (h : xp_rule S p1 p2 p3 = .inl X) : X = "java/lang/IndexOutOfBoundsException" ∨ X = "java/lang/IllegalArgumentException" := by
  unfold xp_rule at h
  by_cases c_1 : (xf_isIn p1 0 7) = true
  · rw [if_pos c_1] at h
    by_cases c_2 : ((xf_isIn p2 1 400) = true) ∧ ((xf_isIn p3 0 50) = true)
    · rw [if_pos c_2] at h
      cases h
    · rw [if_neg c_2] at h
      exact Or.inr ((Sum.inl.inj h).symm)
  · rw [if_neg c_1] at h
    exact Or.inl ((Sum.inl.inj h).symm)
theorem xn_threshold {S : gs_T} {p1 : Int32} {X : String} (h : xp_threshold S p1 = .inl X) : X = "java/lang/IllegalArgumentException" := by
  unfold xp_threshold at h
  by_cases c_1 : (xf_isIn p1 1 200) = true
  · rw [if_pos c_1] at h
    cases h
  · rw [if_neg c_1] at h
    exact (Sum.inl.inj h).symm
theorem xn_see {S : gs_T} {p1 : Int32} {p2 : Int32} {X : String} (h : xp_see S p1 p2 = .inl X) : X = "java/lang/IndexOutOfBoundsException" ∨ X = "java/lang/IllegalArgumentException" ∨ X = "java/lang/IllegalStateException" := by
  unfold xp_see at h
  by_cases c_1 : (xf_isIn p1 0 ((S 21 1) - 1)) = true
  · rw [if_pos c_1] at h
    by_cases c_2 : ((xf_isWords p2) = true) ∧ ((p2 &&& (S 34 p1.toNatClampNeg)) = 0)
    · rw [if_pos c_2] at h
      by_cases c_3 : (S 36 p1.toNatClampNeg) = 0
      · rw [if_pos c_3] at h
        cases h
      · rw [if_neg c_3] at h
        exact Or.inr (Or.inr ((Sum.inl.inj h).symm))
    · rw [if_neg c_2] at h
      exact Or.inr (Or.inl ((Sum.inl.inj h).symm))
  · rw [if_neg c_1] at h
    exact Or.inl ((Sum.inl.inj h).symm)
theorem xn_send {S : gs_T} {p1 : Int32} {p2 : Int32} {X : String} (h : xp_send S p1 p2 = .inl X) : X = "java/lang/IndexOutOfBoundsException" ∨ X = "java/lang/IllegalStateException" := by
  unfold xp_send at h
  by_cases c_1 : (xf_isIn p1 0 ((S 21 1) - 1)) = true
  · rw [if_pos c_1] at h
    by_cases c_2 : (xf_isIn p2 0 5) = true
    · rw [if_pos c_2] at h
      by_cases c_3 : ((S 36 p1.toNatClampNeg) = 0) ∧ (¬ ((S 39 p1.toNatClampNeg) = p2))
      · rw [if_pos c_3] at h
        cases h
      · rw [if_neg c_3] at h
        exact Or.inr ((Sum.inl.inj h).symm)
    · rw [if_neg c_2] at h
      exact Or.inl ((Sum.inl.inj h).symm)
  · rw [if_neg c_1] at h
    exact Or.inl ((Sum.inl.inj h).symm)
theorem xn_hold {S : gs_T} {p1 : Int32} {p2 : Int32} {X : String} (h : xp_hold S p1 p2 = .inl X) : X = "java/lang/IndexOutOfBoundsException" ∨ X = "java/lang/IllegalStateException" := by
  unfold xp_hold at h
  by_cases c_1 : (xf_isIn p1 0 ((S 21 1) - 1)) = true
  · rw [if_pos c_1] at h
    by_cases c_2 : (xf_isHere S p1.toNatClampNeg) = true
    · rw [if_pos c_2] at h
      cases h
    · rw [if_neg c_2] at h
      exact Or.inr ((Sum.inl.inj h).symm)
  · rw [if_neg c_1] at h
    exact Or.inl ((Sum.inl.inj h).symm)
theorem xn_say {S : gs_T} {p1 : Int32} {p2 : Int32} {X : String} (h : xp_say S p1 p2 = .inl X) : X = "java/lang/IndexOutOfBoundsException" ∨ X = "java/lang/IllegalArgumentException" ∨ X = "java/lang/IllegalStateException" := by
  unfold xp_say at h
  by_cases c_1 : (xf_isIn p1 0 ((S 21 2) - 1)) = true
  · rw [if_pos c_1] at h
    by_cases c_2 : (xf_isWords p2) = true
    · rw [if_pos c_2] at h
      by_cases c_3 : (S 56 p1.toNatClampNeg) = 0
      · rw [if_pos c_3] at h
        cases h
      · rw [if_neg c_3] at h
        exact Or.inr (Or.inr ((Sum.inl.inj h).symm))
    · rw [if_neg c_2] at h
      exact Or.inr (Or.inl ((Sum.inl.inj h).symm))
  · rw [if_neg c_1] at h
    exact Or.inl ((Sum.inl.inj h).symm)
theorem xn_tell {S : gs_T} {p1 : Int32} {p2 : Int32} {X : String} (h : xp_tell S p1 p2 = .inl X) : X = "java/lang/IndexOutOfBoundsException" ∨ X = "java/lang/IllegalArgumentException" ∨ X = "java/lang/IllegalStateException" := by
  unfold xp_tell at h
  by_cases c_1 : (xf_isIn p1 0 ((S 21 2) - 1)) = true
  · rw [if_pos c_1] at h
    by_cases c_2 : (xf_isWords p2) = true
    · rw [if_pos c_2] at h
      by_cases c_3 : (S 56 p1.toNatClampNeg) = 0
      · rw [if_pos c_3] at h
        cases h
      · rw [if_neg c_3] at h
        exact Or.inr (Or.inr ((Sum.inl.inj h).symm))
    · rw [if_neg c_2] at h
      exact Or.inr (Or.inl ((Sum.inl.inj h).symm))
  · rw [if_neg c_1] at h
    exact Or.inl ((Sum.inl.inj h).symm)
theorem xn_withdraw {S : gs_T} {p1 : Int32} {X : String} (h : xp_withdraw S p1 = .inl X) : X = "java/lang/IndexOutOfBoundsException" ∨ X = "java/lang/IllegalStateException" := by
  unfold xp_withdraw at h
  by_cases c_1 : (xf_isIn p1 0 ((S 21 2) - 1)) = true
  · rw [if_pos c_1] at h
    by_cases c_2 : (S 56 p1.toNatClampNeg) = 0
    · rw [if_pos c_2] at h
      cases h
    · rw [if_neg c_2] at h
      exact Or.inr ((Sum.inl.inj h).symm)
  · rw [if_neg c_1] at h
    exact Or.inl ((Sum.inl.inj h).symm)
theorem xn_extend {S : gs_T} {p1 : Int32} {p2 : Int32} {X : String} (h : xp_extend S p1 p2 = .inl X) : X = "java/lang/IndexOutOfBoundsException" ∨ X = "java/lang/IllegalArgumentException" ∨ X = "java/lang/IllegalStateException" := by
  unfold xp_extend at h
  by_cases c_1 : (xf_isIn p1 0 ((S 21 1) - 1)) = true
  · rw [if_pos c_1] at h
    by_cases c_2 : (xf_isIn p2 1 365) = true
    · rw [if_pos c_2] at h
      by_cases c_3 : ((xf_isHere S p1.toNatClampNeg) = true) ∧ (¬ ((S 30 p1.toNatClampNeg) = 7))
      · rw [if_pos c_3] at h
        cases h
      · rw [if_neg c_3] at h
        exact Or.inr (Or.inr ((Sum.inl.inj h).symm))
    · rw [if_neg c_2] at h
      exact Or.inr (Or.inl ((Sum.inl.inj h).symm))
  · rw [if_neg c_1] at h
    exact Or.inl ((Sum.inl.inj h).symm)
theorem xn_fit {S : gs_T} {p1 : Int32} {p2 : Int32} {X : String} (h : xp_fit S p1 p2 = .inl X) : X = "java/lang/IndexOutOfBoundsException" := by
  unfold xp_fit at h
  by_cases c_1 : (xf_isIn p1 0 ((S 21 1) - 1)) = true
  · rw [if_pos c_1] at h
    by_cases c_2 : (xf_isIn p2 0 ((S 21 2) - 1)) = true
    · rw [if_pos c_2] at h
      cases h
    · rw [if_neg c_2] at h
      exact (Sum.inl.inj h).symm
  · rw [if_neg c_1] at h
    exact (Sum.inl.inj h).symm
theorem xn_isProven {S : gs_T} {p1 : Int32} {p2 : Int32} {X : String} (h : xp_isProven S p1 p2 = .inl X) : X = "java/lang/IndexOutOfBoundsException" := by
  unfold xp_isProven at h
  by_cases c_1 : (xf_isIn p1 0 ((S 21 1) - 1)) = true
  · rw [if_pos c_1] at h
    by_cases c_2 : (xf_isIn p2 0 ((S 21 2) - 1)) = true
    · rw [if_pos c_2] at h
      cases h
    · rw [if_neg c_2] at h
      exact (Sum.inl.inj h).symm
  · rw [if_neg c_1] at h
    exact (Sum.inl.inj h).symm
theorem xn_ofClaim {S : gs_T} {p1 : Int32} {p2 : Int32} {X : String} (h : xp_ofClaim S p1 p2 = .inl X) : X = "java/lang/IndexOutOfBoundsException" ∨ X = "java/lang/IllegalArgumentException" := by
  unfold xp_ofClaim at h
  by_cases c_1 : (xf_isIn p1 0 ((S 21 2) - 1)) = true
  · rw [if_pos c_1] at h
    by_cases c_2 : (xf_isIn p2 0 3) = true
    · rw [if_pos c_2] at h
      cases h
    · rw [if_neg c_2] at h
      exact Or.inr ((Sum.inl.inj h).symm)
  · rw [if_neg c_1] at h
    exact Or.inl ((Sum.inl.inj h).symm)
theorem xn_money {S : gs_T} {p1 : Int32} {X : String} (h : xp_money S p1 = .inl X) : X = "java/lang/IllegalArgumentException" := by
  unfold xp_money at h
  by_cases c_1 : (xf_isIn p1 0 2) = true
  · rw [if_pos c_1] at h
    cases h
  · rw [if_neg c_1] at h
    exact (Sum.inl.inj h).symm
theorem xn_ofFind {S : gs_T} {p1 : Int32} {p2 : Int32} {X : String} (h : xp_ofFind S p1 p2 = .inl X) : X = "java/lang/IndexOutOfBoundsException" ∨ X = "java/lang/IllegalArgumentException" := by
  unfold xp_ofFind at h
  by_cases c_1 : (xf_isIn p1 0 ((S 21 1) - 1)) = true
  · rw [if_pos c_1] at h
    by_cases c_2 : (xf_isIn p2 0 4) = true
    · rw [if_pos c_2] at h
      by_cases c_3 : p2 = 0
      · rw [if_pos c_3] at h
        cases h
      · rw [if_neg c_3] at h
        by_cases c_4 : p2 = 1
        · rw [if_pos c_4] at h
          cases h
        · rw [if_neg c_4] at h
          by_cases c_5 : p2 = 2
          · rw [if_pos c_5] at h
            cases h
          · rw [if_neg c_5] at h
            by_cases c_6 : p2 = 3
            · rw [if_pos c_6] at h
              cases h
            · rw [if_neg c_6] at h
              cases h
    · rw [if_neg c_2] at h
      exact Or.inr ((Sum.inl.inj h).symm)
  · rw [if_neg c_1] at h
    exact Or.inl ((Sum.inl.inj h).symm)
theorem xn_audit {S : gs_T} {p1 : Int32} {X : String} (h : xp_audit S p1 = .inl X) : X = "java/lang/IndexOutOfBoundsException" := by
  unfold xp_audit at h
  by_cases c_1 : (xf_isIn p1 0 5) = true
  · rw [if_pos c_1] at h
    cases h
  · rw [if_neg c_1] at h
    exact (Sum.inl.inj h).symm
theorem xn_hand {S : gs_T} {p1 : Int32} {p2 : Int32} {p3 : Int32} {X : String} (h : xp_hand S p1 p2 p3 = .inl X) : X = "java/lang/IndexOutOfBoundsException" := by
  unfold xp_hand at h
  by_cases c_1 : (xf_isIn p1 0 ((S 21 1) - 1)) = true
  · rw [if_pos c_1] at h
    by_cases c_2 : (xf_isIn p2 0 ((S 21 (7 + p1.toNatClampNeg)) - 1)) = true
    · rw [if_pos c_2] at h
      cases h
    · rw [if_neg c_2] at h
      exact (Sum.inl.inj h).symm
  · rw [if_neg c_1] at h
    exact (Sum.inl.inj h).symm
theorem xn_question {S : gs_T} {p1 : Int32} {X : String} (h : xp_question S p1 = .inl X) : X = "java/lang/IndexOutOfBoundsException" := by
  unfold xp_question at h
  by_cases c_1 : (xf_isIn p1 0 ((S 21 2) - 1)) = true
  · rw [if_pos c_1] at h
    cases h
  · rw [if_neg c_1] at h
    exact (Sum.inl.inj h).symm
theorem xn_candidate {S : gs_T} {p1 : Int32} {p2 : Int32} {X : String} (h : xp_candidate S p1 p2 = .inl X) : X = "java/lang/IndexOutOfBoundsException" := by
  unfold xp_candidate at h
  by_cases c_1 : (xf_isIn p1 0 ((S 21 2) - 1)) = true
  · rw [if_pos c_1] at h
    by_cases c_2 : ¬ (p2 < 0)
    · rw [if_pos c_2] at h
      cases h
    · rw [if_neg c_2] at h
      exact (Sum.inl.inj h).symm
  · rw [if_neg c_1] at h
    exact (Sum.inl.inj h).symm
theorem xn_release {S : gs_T} {p1 : Int32} {p2 : Int32} {X : String} (h : xp_release S p1 p2 = .inl X) : X = "java/lang/IndexOutOfBoundsException" ∨ X = "java/lang/IllegalStateException" := by
  unfold xp_release at h
  by_cases c_1 : (xf_isIn p1 0 ((S 21 1) - 1)) = true
  · rw [if_pos c_1] at h
    by_cases c_2 : (xf_isIn p2 0 ((S 21 2) - 1)) = true
    · rw [if_pos c_2] at h
      by_cases c_3 : ((S 36 p1.toNatClampNeg) = 0) ∧ (((S 38 p1.toNatClampNeg) = 0) ∧ (((xf_isCandidate S p1.toNatClampNeg p2.toNatClampNeg) = true) ∧ (((xf_proves S p2.toNatClampNeg p1.toNatClampNeg) = true) ∧ (¬ ((xf_isBeaten S p1.toNatClampNeg p2.toNatClampNeg) = true)))))
      · rw [if_pos c_3] at h
        cases h
      · rw [if_neg c_3] at h
        exact Or.inr ((Sum.inl.inj h).symm)
    · rw [if_neg c_2] at h
      exact Or.inl ((Sum.inl.inj h).symm)
  · rw [if_neg c_1] at h
    exact Or.inl ((Sum.inl.inj h).symm)
theorem xn_sell {S : gs_T} {p1 : Int32} {p2 : Int32} {X : String} (h : xp_sell S p1 p2 = .inl X) : X = "java/lang/IndexOutOfBoundsException" ∨ X = "java/lang/IllegalArgumentException" ∨ X = "java/lang/IllegalStateException" := by
  unfold xp_sell at h
  by_cases c_1 : (xf_isIn p1 0 ((S 21 1) - 1)) = true
  · rw [if_pos c_1] at h
    by_cases c_2 : (xf_isIn p2 1 9999) = true
    · rw [if_pos c_2] at h
      by_cases c_3 : ((xf_isOver S p1.toNatClampNeg) = true) ∧ (¬ ((S 30 p1.toNatClampNeg) = 7))
      · rw [if_pos c_3] at h
        cases h
      · rw [if_neg c_3] at h
        exact Or.inr (Or.inr ((Sum.inl.inj h).symm))
    · rw [if_neg c_2] at h
      exact Or.inr (Or.inl ((Sum.inl.inj h).symm))
  · rw [if_neg c_1] at h
    exact Or.inl ((Sum.inl.inj h).symm)
theorem xn_destroy {S : gs_T} {p1 : Int32} {X : String} (h : xp_destroy S p1 = .inl X) : X = "java/lang/IndexOutOfBoundsException" ∨ X = "java/lang/IllegalStateException" := by
  unfold xp_destroy at h
  by_cases c_1 : (xf_isIn p1 0 ((S 21 1) - 1)) = true
  · rw [if_pos c_1] at h
    by_cases c_2 : (xf_isOver S p1.toNatClampNeg) = true
    · rw [if_pos c_2] at h
      cases h
    · rw [if_neg c_2] at h
      exact Or.inr ((Sum.inl.inj h).symm)
  · rw [if_neg c_1] at h
    exact Or.inl ((Sum.inl.inj h).symm)
theorem xn_payOut {S : gs_T} {p1 : Int32} {p2 : Int32} {X : String} (h : xp_payOut S p1 p2 = .inl X) : X = "java/lang/IndexOutOfBoundsException" ∨ X = "java/lang/IllegalStateException" := by
  unfold xp_payOut at h
  by_cases c_1 : (xf_isIn p1 0 ((S 21 1) - 1)) = true
  · rw [if_pos c_1] at h
    by_cases c_2 : (xf_isIn p2 0 ((S 21 2) - 1)) = true
    · rw [if_pos c_2] at h
      by_cases c_3 : ((S 36 p1.toNatClampNeg) = 4) ∧ ((¬ (365 < ((S 0 0) - (S 42 p1.toNatClampNeg)))) ∧ (((xf_isCandidate S p1.toNatClampNeg p2.toNatClampNeg) = true) ∧ (((xf_proves S p2.toNatClampNeg p1.toNatClampNeg) = true) ∧ (¬ ((xf_isBeaten S p1.toNatClampNeg p2.toNatClampNeg) = true)))))
      · rw [if_pos c_3] at h
        cases h
      · rw [if_neg c_3] at h
        exact Or.inr ((Sum.inl.inj h).symm)
    · rw [if_neg c_2] at h
      exact Or.inl ((Sum.inl.inj h).symm)
  · rw [if_neg c_1] at h
    exact Or.inl ((Sum.inl.inj h).symm)
theorem xn_isDue {S : gs_T} {p1 : Int32} {X : String} (h : xp_isDue S p1 = .inl X) : X = "java/lang/IndexOutOfBoundsException" := by
  unfold xp_isDue at h
  by_cases c_1 : (xf_isIn p1 0 ((S 21 1) - 1)) = true
  · rw [if_pos c_1] at h
    cases h
  · rw [if_neg c_1] at h
    exact (Sum.inl.inj h).symm
theorem xn_lose {S : gs_T} {p1 : Int32} {X : String} (h : xp_lose S p1 = .inl X) : X = "java/lang/IndexOutOfBoundsException" := by
  unfold xp_lose at h
  by_cases c_1 : (xf_isIn p1 0 5) = true
  · rw [if_pos c_1] at h
    cases h
  · rw [if_neg c_1] at h
    exact (Sum.inl.inj h).symm
theorem xn_stop {S : gs_T} {p1 : Int32} {p2 : Int32} {X : String} (h : xp_stop S p1 p2 = .inl X) : X = "java/lang/IndexOutOfBoundsException" ∨ X = "java/lang/IllegalStateException" := by
  unfold xp_stop at h
  by_cases c_1 : ((xf_isIn p1 0 3) = true) ∧ ((xf_isIn p2 0 5) = true)
  · rw [if_pos c_1] at h
    by_cases c_2 : (¬ (6 ≤ (S 21 (3 + p1.toNatClampNeg)))) ∧ (¬ (¬ ((jf_idx (fun j => (S 72 (8 * p1.toNatClampNeg + j) + 128).toNatClampNeg) ((p2 + 128).toNatClampNeg) (nz S (3 + p1.toNatClampNeg)) 0) < 0)))
    · rw [if_pos c_2] at h
      cases h
    · rw [if_neg c_2] at h
      exact Or.inr ((Sum.inl.inj h).symm)
  · rw [if_neg c_1] at h
    exact Or.inl ((Sum.inl.inj h).symm)
theorem xn_turnUp {S : gs_T} {p1 : Int32} {p2 : Int32} {X : String} (h : xp_turnUp S p1 p2 = .inl X) : X = "java/lang/IndexOutOfBoundsException" ∨ X = "java/lang/IllegalStateException" := by
  unfold xp_turnUp at h
  by_cases c_1 : (xf_isIn p1 0 ((S 21 1) - 1)) = true
  · rw [if_pos c_1] at h
    by_cases c_2 : (xf_isIn p2 0 5) = true
    · rw [if_pos c_2] at h
      by_cases c_3 : (S 36 p1.toNatClampNeg) = 2
      · rw [if_pos c_3] at h
        cases h
      · rw [if_neg c_3] at h
        exact Or.inr ((Sum.inl.inj h).symm)
    · rw [if_neg c_2] at h
      exact Or.inl ((Sum.inl.inj h).symm)
  · rw [if_neg c_1] at h
    exact Or.inl ((Sum.inl.inj h).symm)
theorem xn_pass {S : gs_T} {p1 : Int32} {X : String} (h : xp_pass S p1 = .inl X) : X = "java/lang/IllegalArgumentException" ∨ X = "java/lang/IllegalStateException" := by
  unfold xp_pass at h
  by_cases c_1 : (xf_isIn p1 1 400) = true
  · rw [if_pos c_1] at h
    by_cases c_2 : ¬ (9999 < ((S 0 0) + p1))
    · rw [if_pos c_2] at h
      cases h
    · rw [if_neg c_2] at h
      exact Or.inr ((Sum.inl.inj h).symm)
  · rw [if_neg c_1] at h
    exact Or.inl ((Sum.inl.inj h).symm)
theorem xn_claim {S : gs_T} {p1 : Int32} {p2 : Int32} {p3 : Int32} {p4 : Int32} {p5 : Int32} {X : String} (h : xp_claim S p1 p2 p3 p4 p5 = .inl X) : X = "java/lang/IndexOutOfBoundsException" ∨ X = "java/lang/IllegalArgumentException" ∨ X = "java/lang/IllegalStateException" := by
  unfold xp_claim at h
  by_cases c_1 : (xf_isIn p1 0 7) = true
  · rw [if_pos c_1] at h
    by_cases c_2 : (xf_isPlace p2) = true
    · rw [if_pos c_2] at h
      by_cases c_3 : ((xf_isIn p3 0 (S 0 0)) = true) ∧ (((xf_isIn p4 p3 (S 0 0)) = true) ∧ ((xf_isWords p5) = true))
      · rw [if_pos c_3] at h
        by_cases c_4 : ¬ (20 ≤ (S 21 2))
        · rw [if_pos c_4] at h
          cases h
        · rw [if_neg c_4] at h
          exact Or.inr (Or.inr ((Sum.inl.inj h).symm))
      · rw [if_neg c_3] at h
        exact Or.inr (Or.inl ((Sum.inl.inj h).symm))
    · rw [if_neg c_2] at h
      exact Or.inl ((Sum.inl.inj h).symm)
  · rw [if_neg c_1] at h
    exact Or.inl ((Sum.inl.inj h).symm)
theorem xn_find {S : gs_T} {p1 : Int32} {p2 : Int32} {p3 : Int32} {p4 : Int32} {p5 : Int32} {p6 : Int32} {p7 : Int32} {X : String} (h : xp_find S p1 p2 p3 p4 p5 p6 p7 = .inl X) : X = "java/lang/IndexOutOfBoundsException" ∨ X = "java/lang/IllegalArgumentException" ∨ X = "java/lang/IllegalStateException" := by
  unfold xp_find at h
  by_cases c_1 : (xf_isIn p1 0 7) = true
  · rw [if_pos c_1] at h
    by_cases c_2 : ((xf_isPlace p2) = true) ∧ ((xf_isIn p7 0 5) = true)
    · rw [if_pos c_2] at h
      by_cases c_3 : ((xf_isIn p3 0 (S 0 0)) = true) ∧ (((xf_isWords p4) = true) ∧ (((xf_isWords p5) = true) ∧ (((p4 &&& p5) = 0) ∧ ((xf_isIn p6 0 9999) = true))))
      · rw [if_pos c_3] at h
        by_cases c_4 : ¬ (30 ≤ (S 21 1))
        · rw [if_pos c_4] at h
          cases h
        · rw [if_neg c_4] at h
          exact Or.inr (Or.inr ((Sum.inl.inj h).symm))
      · rw [if_neg c_3] at h
        exact Or.inr (Or.inl ((Sum.inl.inj h).symm))
    · rw [if_neg c_2] at h
      exact Or.inl ((Sum.inl.inj h).symm)
  · rw [if_neg c_1] at h
    exact Or.inl ((Sum.inl.inj h).symm)
