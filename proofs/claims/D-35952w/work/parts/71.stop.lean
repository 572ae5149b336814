/-! a list of Lostroom's that has got an element (trains' stops) -/
def xs_add (S : gs_T) (z : Nat) : gs_T := gs_up (gs_up (gs_up S 20 z (S 20 z + 1)) 21 z (S 21 z + 1)) 22 z (nI (na_C (nz S z) (cz S z)))
theorem xs_row {S : gs_T} {z k : Nat} (h : k ≠ 20 ∧ k ≠ 21 ∧ k ≠ 22) : xs_add S z k = S k := by
  unfold xs_add
  rw [gs_up_row h.2.2, gs_up_row h.2.1, gs_up_row h.1]
theorem xs_20 {S : gs_T} {z : Nat} : xs_add S z 20 = upd (S 20) z (S 20 z + 1) := by
  unfold xs_add
  rw [gs_up_row (by decide), gs_up_row (by decide), gs_up_at]
theorem xs_21 {S : gs_T} {z : Nat} : xs_add S z 21 = upd (S 21) z (S 21 z + 1) := by
  unfold xs_add
  rw [gs_up_row (by decide), gs_up_at, gs_up_row (by decide)]
theorem xs_22 {S : gs_T} {z : Nat} : xs_add S z 22 = upd (S 22) z (nI (na_C (nz S z) (cz S z))) := by
  unfold xs_add
  rw [gs_up_at, gs_up_row (by decide), gs_up_row (by decide)]
theorem na_Cb : ∀ n, n < 41 → ∀ cap, cap < 41 → n ≤ cap → na_C n cap ≠ 0 ∧ na_C n cap ≤ 100 ∧ n + 1 ≤ na_C n cap := by decide +kernel
theorem xs_nz {S : gs_T} {z m : Nat} (hz : xi_z S z m) (hm : m ≤ 40) (j : Nat) : nz (xs_add S z) j = if j = z then nz S z + 1 else nz S j := by
  unfold nz
  rw [xs_21]
  by_cases e : j = z
  · subst e
    rw [if_pos rfl]
    have h1 := hz.1
    have h2 := hz.2.1
    show (upd (S 21) j (S 21 j + 1) j).toNatClampNeg = _
    have : upd (S 21) j (S 21 j + 1) j = S 21 j + 1 := by simp [upd]
    rw [this, h1, show nI (nz S j) + 1 = nI (nz S j + 1) from nI_1 _, nI_clamp (by omega), nI_clamp (by omega)]
  · rw [if_neg e]
    have : upd (S 21) z (S 21 z + 1) j = S 21 j := by simp [upd, e]
    rw [this]
theorem xs_cz {S : gs_T} {z m : Nat} (hz : xi_z S z m) (hm : m ≤ 40) (j : Nat) : cz (xs_add S z) j = if j = z then na_C (nz S z) (cz S z) else cz S j := by
  unfold cz
  rw [xs_22]
  by_cases e : j = z
  · subst e
    rw [if_pos rfl]
    obtain ⟨h1, h2, h3, h4, h5⟩ := hz
    have hb := (na_Cb (nz S j) (by omega) (cz S j) (by omega) h3).2.1
    have : upd (S 22) j (nI (na_C (nz S j) (cz S j))) j = nI (na_C (nz S j) (cz S j)) := by simp [upd]
    rw [this, nI_clamp (by omega)]
    rfl
  · rw [if_neg e]
    have : upd (S 22) z (nI (na_C (nz S z) (cz S z))) j = S 22 j := by simp [upd, e]
    rw [this]
