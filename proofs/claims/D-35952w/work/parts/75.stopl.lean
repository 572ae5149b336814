/-! a train got a stop: what it asks, the ranges behind it -/
theorem xq_st {p : Int32} (h : xf_isIn p 0 3 = true) : p.toNatClampNeg < 4 ∧ p = nI p.toNatClampNeg := by
  obtain ⟨a, b, -⟩ := xq_in (n := 4) (by rw [show (nI 4 - 1 : Int32) = 3 from by decide]; exact h) (by decide)
  exact ⟨a, b⟩
theorem xi_stopped {S : gs_T} {t : Nat} {w : Int32} (hI : xi_ok S) (ht : t < 4) (hn : nz S (3 + t) < 6) (hw : vp_in w 6) : xi_ok (gs_up (xs_add S (3 + t)) 72 (8 * t + nz S (3 + t)) w) := by
  have hz : xi_z S (3 + t) 6 := hI.2.2.2.1 t ht
  obtain ⟨z1, z2, z3, z4, z5⟩ := hz
  have hzz : xi_z S (3 + t) 6 := ⟨z1, z2, z3, z4, z5⟩
  generalize hS' : gs_up (xs_add S (3 + t)) 72 (8 * t + nz S (3 + t)) w = S'
  have N : ∀ j, nz S' j = if j = 3 + t then nz S (3 + t) + 1 else nz S j := fun j => by
    rw [← hS', nz_up rfl, xs_nz hzz (by decide)]
  have K : ∀ j, cz S' j = if j = 3 + t then na_C (nz S (3 + t)) (cz S (3 + t)) else cz S j := fun j => by
    rw [← hS', ← xs_cz hzz (by decide)]
    unfold cz
    rw [gs_sk rfl]
  have R : ∀ k, k ≠ 20 ∧ k ≠ 21 ∧ k ≠ 22 → k ≠ 72 → S' k = S k := fun k h1 h2 => by rw [← hS', gs_up_row h2, xs_row h1]
  have r72 : ∀ j, S' 72 j = if j = 8 * t + nz S (3 + t) then w else S 72 j := fun j => by
    rw [← hS', gs_up_at, xs_row ⟨by decide, by decide, by decide⟩]
    rfl
  have r21 : ∀ j, S' 21 j = if j = 3 + t then S 21 (3 + t) + 1 else S 21 j := fun j => by
    rw [← hS', gs_up_row (by decide), xs_21]; rfl
  have r22 : ∀ j, S' 22 j = if j = 3 + t then nI (na_C (nz S (3 + t)) (cz S (3 + t))) else S 22 j := fun j => by
    rw [← hS', gs_up_row (by decide), xs_22]; rfl
  have nb := na_Cb (nz S (3 + t)) (by omega) (cz S (3 + t)) (by omega) z3
  have nc : na_C (nz S (3 + t)) (cz S (3 + t)) ≤ 33 := by
    unfold na_C
    split
    · have : ∀ c, c < 6 → na_m c ≤ 33 := by decide +kernel
      exact this _ (by omega)
    · exact z5
  have zs : ∀ z m, z ≠ 3 + t → xi_z S z m → xi_z S' z m := fun z m hne h => by
    unfold xi_z
    rw [N, if_neg hne, K, if_neg hne, r21, if_neg hne, r22, if_neg hne]
    exact h
  have e1 : nz S' 1 = nz S 1 := by rw [N, if_neg (by omega)]
  have e2 : nz S' 2 = nz S 2 := by rw [N, if_neg (by omega)]
  obtain ⟨⟨a0, a0'⟩, a1, a2, a3, a4, a5, a6, a7⟩ := hI
  refine ⟨⟨zs 0 4 (by omega) a0, by rw [N, if_neg (by omega)]; exact a0'⟩, zs 1 30 (by omega) a1, zs 2 20 (by omega) a2, fun u hu => ?_, fun i hi => ?_, fun i hi => ?_, fun i hi => ?_, fun u j hu hj => ?_⟩
  · by_cases e : u = t
    · subst e
      unfold xi_z
      rw [N, if_pos rfl, K, if_pos rfl, r21, if_pos rfl, r22, if_pos rfl]
      refine ⟨by rw [z1]; exact nI_1 _, by omega, nb.2.2, rfl, nc⟩
    · exact zs (3 + u) 6 (by omega) (a3 u hu)
  · rw [e1] at hi
    exact ⟨zs (7 + i) 12 (by omega) (a4 i hi).1, by rw [N, if_neg (by omega)]; exact (a4 i hi).2⟩
  · rw [e1] at hi
    rw [R 30 ⟨by decide, by decide, by decide⟩ (by decide), R 31 ⟨by decide, by decide, by decide⟩ (by decide), R 38 ⟨by decide, by decide, by decide⟩ (by decide)]
    exact a5 i hi
  · rw [e2] at hi
    rw [R 50 ⟨by decide, by decide, by decide⟩ (by decide), R 51 ⟨by decide, by decide, by decide⟩ (by decide)]
    exact a6 i hi
  · rw [r72]
    split
    · exact hw
    · rename_i hne
      refine a7 u j hu ?_
      rw [N] at hj
      by_cases e : u = t
      · subst e
        rw [if_pos rfl] at hj
        omega
      · rw [if_neg (by omega)] at hj; exact hj
theorem f0_2 {m : MethodId} {pc a a' b b' : Nat} {ls : Array Slot} (h1 : a = a') (h2 : b = b') : F0 m pc ls [.ref a, .ref b] = F0 m pc ls [.ref a', .ref b'] := by rw [h1, h2]
