theorem xh_al {C : ex_C} {g g' : kw_A} {h : xh_T} {S : gs_T} (hI : xi_ok S) (hh : xh C g h S) (hg : ∀ u j, xok S u j → g' u j = g u j) : xh C g' h S := by
  intro z hz j hj
  rw [hh z hz j hj]
  congr 1
  unfold xel
  by_cases c0 : z = 0
  · subst c0
    rw [if_pos rfl, if_pos rfl]
    have := hI.1.2
    exact (hg 1 (3 + j) (show 3 + j < 7 + nz S 1 by omega)).symm
  rw [if_neg c0, if_neg c0]
  by_cases c1 : z = 1
  · subst c1
    rw [if_pos rfl, if_pos rfl]
    exact (hg 3 j hj).symm
  rw [if_neg c1, if_neg c1]
  by_cases c2 : z = 2
  · subst c2
    rw [if_pos rfl, if_pos rfl]
    exact (hg 4 j hj).symm
  rw [if_neg c2, if_neg c2]
  by_cases c3 : z < 7
  · rw [if_pos c3, if_pos c3]
  · rw [if_neg c3, if_neg c3]
    have h1 := (hI.2.2.2.2.1 (z - 7) (by omega)).1.2.1
    rw [show 7 + (z - 7) = z by omega] at h1
    refine (hg 5 (16 * (z - 7) + j) ?_).symm
    show (16 * (z - 7) + j) / 16 < nz S 1 ∧ (16 * (z - 7) + j) % 16 < nz S (7 + (16 * (z - 7) + j) / 16)
    rw [show (16 * (z - 7) + j) / 16 = z - 7 by omega, show (16 * (z - 7) + j) % 16 = j by omega, show 7 + (z - 7) = z by omega]
    exact ⟨by omega, hj⟩
theorem xb_no {S : gs_T} : ¬ xok S 5 (16 * nz S 1) := fun z => by
  have h : 16 * nz S 1 / 16 < nz S 1 := z.1
  omega
theorem hF_ge {t3 i3 : Nat} {g g9 : kw_A} {Fg : kw_A → va_E} {ok : Nat → Nat → Prop} {enF : kw_A → Nat → Nat → va_E} (h1 : Fg g9 = Fg g) (h2 : ∀ u j, ok u j → ¬ (u = t3 ∧ j = i3) → enF g9 u j = enF g u j) : ∀ u j, ok u j → ge_en t3 i3 (Fg g9) (enF g9) u j = ge_en t3 i3 (Fg g) (enF g) u j := fun u j ho => by
  by_cases c : u = t3 ∧ j = i3
  · exact (if_pos c).trans (h1.trans (if_pos c).symm)
  · exact (if_neg c).trans ((h2 u j ho c).trans (if_neg c).symm)
theorem hF_1 {t i u j : Nat} {x : va_E} {en9 en : Nat → Nat → va_E} (h : ¬ (u = t ∧ j = i) → en9 u j = en u j) : ge_en t i x en9 u j = ge_en t i x en u j := by
  by_cases c : u = t ∧ j = i
  · exact (if_pos c).trans (if_pos c).symm
  · exact (if_neg c).trans ((h c).trans (if_neg c).symm)
def fi_F (S : gs_T) (p1 p2 p3 p4 p5 p6 p7 : Int32) : Nat → Int32 := fun k => match k with
  | 0 => p1
  | 1 => p2
  | 2 => p3
  | 3 => p4
  | 4 => p5
  | 5 => p6
  | 6 => 0
  | 7 => S 0 0 + (if p1 = 7 then (1 : Int32) else S 3 p1.toNatClampNeg)
  | 8 => 0
  | 9 => p7
  | _ => 0
