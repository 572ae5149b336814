theorem na_e {z u j : Nat} {l x : va_E} {en : Nat → Nat → va_E} (h1 : ¬ (u = 2 ∧ j = z)) (h2 : ¬ (u = 1 ∧ j = z)) : na_en z l x en u j = en u j := (if_neg h1).trans (if_neg h2)
/-- a train's stops after add: the world of the new store -/
theorem x_stopped {E : en_T} {C : ex_C} {g : kw_A} {h : xh_T} {S : gs_T} {A : Nat → Prop} {H : Heap} {t : Nat} {w : Int32} (hI : xi_ok S) (hh : xh C g h S) (ht : t < 4) (hW : ad_W E (xok S) g (xen E C g h S) A (3 + t) (S 20 (3 + t) + 1) (nz S (3 + t)) (cz S (3 + t)) (h (3 + t)) (C.1 (w + 128).toNatClampNeg) H) :
    ∃ (g' : kw_A) (h' : xh_T), g' 0 0 = g 0 0 ∧ xh C g' h' (gs_up (xs_add S (3 + t)) 72 (8 * t + nz S (3 + t)) w) ∧ xw E C g' h' (gs_up (xs_add S (3 + t)) 72 (8 * t + nz S (3 + t)) w) A H := by
  obtain ⟨q, hq, b1, b2, hk⟩ := hW
  have hz : xi_z S (3 + t) 6 := hI.2.2.2.1 t ht
  obtain ⟨z1, z2, z3, z4, z5⟩ := hz
  generalize hS' : gs_up (xs_add S (3 + t)) 72 (8 * t + nz S (3 + t)) w = S'
  have N : ∀ j, nz S' j = if j = 3 + t then nz S (3 + t) + 1 else nz S j := fun j => by
    rw [← hS', nz_up rfl, xs_nz ⟨z1, z2, z3, z4, z5⟩ (by decide)]
  have K : ∀ j, cz S' j = if j = 3 + t then na_C (nz S (3 + t)) (cz S (3 + t)) else cz S j := fun j => by
    rw [← hS', ← xs_cz ⟨z1, z2, z3, z4, z5⟩ (by decide)]
    unfold cz
    rw [gs_sk rfl]
  have r : ∀ k, k ≠ 20 ∧ k ≠ 21 ∧ k ≠ 22 → k ≠ 72 → S' k = S k := fun k h1 h2 => by rw [← hS', gs_up_row h2, xs_row h1]
  have r72 : ∀ j, S' 72 j = if j = 8 * t + nz S (3 + t) then w else S 72 j := fun j => by
    rw [← hS', gs_up_at, xs_row ⟨by decide, by decide, by decide⟩]
    rfl
  have r20 : ∀ j, S' 20 j = if j = 3 + t then S 20 (3 + t) + 1 else S 20 j := fun j => by
    rw [← hS', gs_up_row (by decide), xs_20]; rfl
  have r21 : ∀ j, S' 21 j = if j = 3 + t then S 21 (3 + t) + 1 else S 21 j := fun j => by
    rw [← hS', gs_up_row (by decide), xs_21]; rfl
  have nb := na_Cb (nz S (3 + t)) (by omega) (cz S (3 + t)) (by omega) z3
  have e1 : nz S' 1 = nz S 1 := by rw [N, if_neg (by omega)]
  have e2 : nz S' 2 = nz S 2 := by rw [N, if_neg (by omega)]
  have ga : ∀ u j, ¬ (u = 2 ∧ j = 3 + t) → na_ad (3 + t) q g u j = g u j := fun u j hne => if_neg hne
  have gu : ∀ u j, u ≠ 2 → na_ad (3 + t) q g u j = g u j := fun u j hne => if_neg (fun z => hne z.1)
  refine ⟨na_ad (3 + t) q g, fun u => if u = 3 + t then hq else h u, gu 0 0 (by decide), ?_, ?_⟩
  · intro z hz j hj
    rw [e1] at hz
    show (if z = 3 + t then hq else h z) j = _
    by_cases e : z = 3 + t
    · subst e
      rw [if_pos rfl]
      rw [N, if_pos rfl] at hj
      unfold xel
      rw [if_neg (by omega), if_neg (by omega), if_neg (by omega), if_pos (by omega), show 3 + t - 3 = t by omega, r72]
      by_cases ej : j = nz S (3 + t)
      · subst ej
        rw [if_pos rfl, b2]
      · rw [if_neg (by omega), b1 j (by omega), hh _ hz j (by omega)]
        unfold xel
        rw [if_neg (by omega), if_neg (by omega), if_neg (by omega), if_pos (by omega), show 3 + t - 3 = t by omega]
    · rw [if_neg e]
      rw [N, if_neg e] at hj
      rw [hh _ hz j hj]
      unfold xel
      rw [gu 1 _ (by decide), gu 3 _ (by decide), gu 4 _ (by decide), gu 5 _ (by decide)]
      by_cases c0 : z = 0
      · rw [if_pos c0, if_pos c0]
      by_cases c1 : z = 1
      · rw [if_neg c0, if_neg c0, if_pos c1, if_pos c1]
      by_cases c2 : z = 2
      · rw [if_neg c0, if_neg c0, if_neg c1, if_neg c1, if_pos c2, if_pos c2]
      rw [if_neg c0, if_neg c0, if_neg c1, if_neg c1, if_neg c2, if_neg c2]
      by_cases c3 : z < 7
      · rw [if_pos c3, if_pos c3, r72, if_neg ?_]
        have h6 := (hI.2.2.2.1 (z - 3) (by omega)).2.1
        rw [show 3 + (z - 3) = z by omega] at h6
        omega
      · rw [if_neg c3, if_neg c3]
  · refine hk.less (fun u j ho => ?_)
    have e7 : (3 + t) < 7 + nz S 1 := by omega
    match u, ho with
    | 0, ho =>
      refine ⟨Or.inr (show xok S 0 j from (show j = 0 from ho)), gu 0 j (by decide), ?_⟩
      have hj : j = 0 := ho
      subst hj
      refine Eq.trans ?_ (na_e (fun z => absurd z.1 (by decide)) (fun z => absurd z.1 (by decide))).symm
      have ex : xfs (na_ad (3 + t) q g) S' = xfs g S := by
        simp only [xfs]
        rw [r 0 (by decide) (by decide), r 6 (by decide) (by decide), r 9 (by decide) (by decide), r 10 (by decide) (by decide), r 11 (by decide) (by decide), gu 6 _ (by decide), gu 6 _ (by decide), gu 6 _ (by decide), gu 6 _ (by decide), gu 1 _ (by decide), gu 1 _ (by decide), gu 1 _ (by decide)]
      exact congrArg (fun z => (Sum.inr (0, z) : va_E)) ex
    | 1, ho =>
      have ho : j < 7 + nz S' 1 := ho
      rw [e1] at ho
      refine ⟨Or.inr ho, gu 1 j (by decide), ?_⟩
      have L1 : xen E C (na_ad (3 + t) q g) (fun u => if u = 3 + t then hq else h u) S' 1 j = .inr (5, [.int (S' 20 j), .ref (if cz S' j = 0 then C.2.1 else na_ad (3 + t) q g 2 j), .int (S' 21 j)]) := rfl
      rw [L1]
      refine Eq.trans ?_ (if_neg (fun z => absurd z.1 (by decide))).symm
      by_cases e : j = 3 + t
      · refine Eq.trans ?_ (if_pos ⟨rfl, e⟩).symm
        have k1 : cz S' j ≠ 0 := by rw [K, if_pos e]; exact nb.1
        have k2 : na_ad (3 + t) q g 2 j = q := if_pos ⟨rfl, e⟩
        rw [if_neg k1, k2, r20, if_pos e, r21, if_pos e, z1, show nI (nz S (3 + t)) + 1 = nI (nz S (3 + t) + 1) from nI_1 _]
      · refine Eq.trans ?_ (if_neg (fun z => e z.2)).symm
        have k1 : cz S' j = cz S j := by rw [K, if_neg e]
        rw [k1, r20, if_neg e, r21, if_neg e, ga 2 j (fun z => e z.2)]
        rfl
    | 2, ho =>
      have ho : j < 7 + nz S' 1 ∧ cz S' j ≠ 0 := ho
      rw [e1, K] at ho
      by_cases e : j = 3 + t
      · subst e
        refine ⟨Or.inl ⟨rfl, rfl⟩, rfl, ?_⟩
        show (Sum.inl (E.2.2.2.2, cz S' (3 + t), .inr (.inr (.inr (.inr (if _ then _ else _))))) : va_E) = (if _ then _ else _)
        rw [K, if_pos rfl, if_pos rfl, if_pos ⟨rfl, rfl⟩]
      · rw [if_neg e] at ho
        refine ⟨Or.inr ho, rfl, ?_⟩
        show (Sum.inl (E.2.2.2.2, cz S' j, .inr (.inr (.inr (.inr (if _ then _ else _))))) : va_E) = (if _ then _ else if _ then _ else _)
        rw [K, if_neg e, if_neg e, if_neg (fun z => e z.2), if_neg (fun z => absurd z.1 (by decide))]
        rfl
    | 3, ho =>
      have ho : j < nz S' 1 := ho
      rw [e1] at ho
      refine ⟨Or.inr ho, gu 3 j (by decide), ?_⟩
      refine Eq.trans ?_ (na_e (fun z => absurd z.1 (by decide)) (fun z => absurd z.1 (by decide))).symm
      show (Sum.inr (2, ffs (na_ad (3 + t) q g) S' j) : va_E) = _
      simp only [ffs]
      rw [r 30 (by decide) (by decide), r 31 (by decide) (by decide), r 32 (by decide) (by decide), r 33 (by decide) (by decide), r 34 (by decide) (by decide), r 35 (by decide) (by decide), r 36 (by decide) (by decide), r 37 (by decide) (by decide), r 38 (by decide) (by decide), r 39 (by decide) (by decide), r 40 (by decide) (by decide), r 41 (by decide) (by decide), r 42 (by decide) (by decide), gu 1 _ (by decide), gu 0 _ (by decide)]
      rfl
    | 4, ho =>
      have ho : j < nz S' 2 := ho
      rw [e2] at ho
      refine ⟨Or.inr ho, gu 4 j (by decide), ?_⟩
      refine Eq.trans ?_ (na_e (fun z => absurd z.1 (by decide)) (fun z => absurd z.1 (by decide))).symm
      show (Sum.inr (4, cfs (na_ad (3 + t) q g) S' j) : va_E) = _
      simp only [cfs]
      rw [r 50 (by decide) (by decide), r 51 (by decide) (by decide), r 52 (by decide) (by decide), r 53 (by decide) (by decide), r 54 (by decide) (by decide), r 55 (by decide) (by decide), r 56 (by decide) (by decide), r 57 (by decide) (by decide), r 58 (by decide) (by decide), gu 0 _ (by decide)]
      rfl
    | 5, ho =>
      have ho : j / 16 < nz S' 1 ∧ j % 16 < nz S' (7 + j / 16) := ho
      rw [e1, N, if_neg (by omega)] at ho
      refine ⟨Or.inr ho, gu 5 j (by decide), ?_⟩
      refine Eq.trans ?_ (na_e (fun z => absurd z.1 (by decide)) (fun z => absurd z.1 (by decide))).symm
      show (Sum.inr (3, [.int (S' 70 j), .int (S' 71 j)]) : va_E) = _
      rw [r 70 (by decide) (by decide), r 71 (by decide) (by decide)]
      rfl
    | 6, ho =>
      have hj : 1 ≤ j ∧ j ≤ 4 := ho
      refine ⟨Or.inr (show xok S 6 j from hj), gu 6 j (by decide), ?_⟩
      refine Eq.trans ?_ (na_e (fun z => absurd z.1 (by decide)) (fun z => absurd z.1 (by decide))).symm
      show (Sum.inl (E.2.1, (if j = 1 then 24 else 8), .inl (S' j)) : va_E) = _
      rw [r j ⟨by omega, by omega, by omega⟩ (by omega)]
      rfl
    | u + 7, ho => exact ho.elim
