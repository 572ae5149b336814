/-! what the add of a new find asks -/
theorem xg_adF {E : en_T} {C : ex_C} {g : kw_A} {h : xh_T} {S : gs_T} {f : Nat → Int32} {d r : Int32} (hI : xi_ok S) (hh : xh C g h (xb_S S (nz S 1) f d r)) : ad_P E C (xokF (nz S 1) (xb_S S (nz S 1) f d r)) g (xen E C g h (xb_S S (nz S 1) f d r)) 1 (S 20 1) (nz S 1) (cz S 1) (h 1) (g 3 (nz S 1)) := by
  have hz := hI.2.1
  obtain ⟨z1, z2, z3, z4, z5⟩ := hz
  generalize hn : nz S 1 = n at hh z1 z2 z3 ⊢
  generalize hS2 : xb_S S n f d r = S2 at hh ⊢
  have n1 : nz S2 1 = n := by rw [← hS2, xb_nz, if_neg (by omega)]; exact hn
  have k1 : cz S2 1 = cz S 1 := by rw [← hS2, xb_cz, if_neg (by omega)]
  have o20 : S2 20 1 = S 20 1 := by rw [← hS2]; exact xb_o (fun z => by omega) (fun z => by omega) (fun z => by omega)
  have o21 : S2 21 1 = S 21 1 := by rw [← hS2]; exact xb_o (fun z => by omega) (fun z => by omega) (fun z => by omega)
  refine ⟨fun j ho => ?_, Or.inl (show 1 < 7 + nz S2 1 by omega), ?_, fun hc => ⟨Or.inl (show 1 < 7 + nz S2 1 ∧ cz S2 1 ≠ 0 from ⟨by omega, by rw [k1]; exact hc⟩), ?_⟩, z3, by omega, fun j hj y hy => ?_, ?_⟩
  · rcases ho with ho | ho | ho | ho | ho
    · exact ho
    · exact absurd ho.1 (by decide)
    · exact absurd ho.1 (by decide)
    · exact absurd ho.1 (by decide)
    · exact absurd ho.1 (by decide)
  · show (Sum.inr (5, [.int (S2 20 1), .ref (if cz S2 1 = 0 then C.2.1 else g 2 1), .int (S2 21 1)]) : va_E) = _
    rw [o20, o21, z1, k1]
  · show (Sum.inl (E.2.2.2.2, cz S2 1, .inr (.inr (.inr (.inr (h 1))))) : va_E) = _
    rw [k1]
  · rw [hh 1 (by omega) j (by omega)] at hy
    cases hy
    exact Or.inl ⟨3, j, 2, _, Or.inl (show j < nz S2 1 by omega), rfl, rfl, by simp⟩
  · exact Or.inl ⟨3, n, 2, _, Or.inr (Or.inl ⟨rfl, rfl⟩), rfl, rfl, by simp⟩
theorem xq_n20 {S : gs_T} (hI : xi_ok S) (h : ¬ 20 ≤ S 21 2) : nz S 2 < 20 := by
  obtain ⟨z1, z2⟩ := xi_cn hI
  rw [z1] at h
  rcases Nat.lt_or_ge (nz S 2) 20 with q | q
  · exact q
  · exact absurd (nI_le (a := 20) q (by omega)) h
theorem xq_n30 {S : gs_T} (hI : xi_ok S) (h : ¬ 30 ≤ S 21 1) : nz S 1 < 30 := by
  obtain ⟨z1, z2⟩ := xi_fn hI
  rw [z1] at h
  rcases Nat.lt_or_ge (nz S 1) 30 with q | q
  · exact q
  · exact absurd (nI_le (a := 30) q (by omega)) h
def ci_F (p1 p2 p3 p4 p5 : Int32) : Nat → Int32 := fun k => match k with
  | 0 => p1
  | 1 => p2
  | 2 => p3
  | 3 => p4
  | 4 => p5
  | 8 => -1
  | _ => 0
