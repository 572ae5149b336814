/-! a find's hands: one more, the second one less -/
def xc_hand (S : gs_T) (i : Nat) (d r : Int32) : gs_T := gs_up (gs_up (xs_add S (7 + i)) 70 (16 * i + nz S (7 + i)) d) 71 (16 * i + nz S (7 + i)) r
def xc_shift (S : gs_T) (i : Nat) : gs_T := fun k j => if (k = 70 ∨ k = 71) ∧ j / 16 = i ∧ 1 ≤ j % 16 then S k (j + 1) else if k = 20 ∧ j = 7 + i then S 20 j + 1 else if k = 21 ∧ j = 7 + i then nI 12 else S k j
theorem xs_hrow {S : gs_T} {i : Nat} {d r : Int32} {k : Nat} (h : k ≠ 20 ∧ k ≠ 21 ∧ k ≠ 22) (h1 : k ≠ 70) (h2 : k ≠ 71) : xc_hand S i d r k = S k := by
  unfold xc_hand
  rw [gs_up_row h2, gs_up_row h1, xs_row h]
theorem xs_hnz {S : gs_T} {i : Nat} {d r : Int32} {m : Nat} (hz : xi_z S (7 + i) m) (hm : m ≤ 40) (j : Nat) : nz (xc_hand S i d r) j = if j = 7 + i then nz S (7 + i) + 1 else nz S j := by
  unfold xc_hand
  rw [nz_up rfl, nz_up rfl, xs_nz hz hm]
theorem xs_hcz {S : gs_T} {i : Nat} {d r : Int32} {m : Nat} (hz : xi_z S (7 + i) m) (hm : m ≤ 40) (j : Nat) : cz (xc_hand S i d r) j = if j = 7 + i then na_C (nz S (7 + i)) (cz S (7 + i)) else cz S j := by
  rw [← xs_cz hz hm]
  unfold xc_hand cz
  rw [gs_sk rfl, gs_sk rfl]
theorem x_handed {E : en_T} {C : ex_C} {g : kw_A} {h : xh_T} {S : gs_T} {A : Nat → Prop} {H : Heap} {i : Nat} {d r : Int32} (hI : xi_ok S) (hh : xh C g h S) (hi : i < nz S 1) (hW : ad_W E (ku_ok 5 (16 * i + nz S (7 + i)) (xok S)) g (ge_en 5 (16 * i + nz S (7 + i)) (.inr (3, [.int d, .int r])) (xen E C g h S)) A (7 + i) (S 20 (7 + i) + 1) (nz S (7 + i)) (cz S (7 + i)) (h (7 + i)) (g 5 (16 * i + nz S (7 + i))) H) :
    ∃ (g' : kw_A) (h' : xh_T), (∀ u j, u ≠ 2 → g' u j = g u j) ∧ xh C g' h' (xc_hand S i d r) ∧ xw E C g' h' (xc_hand S i d r) A H := by
  obtain ⟨q, hq, b1, b2, hk⟩ := hW
  have hz : xi_z S (7 + i) 12 := (hI.2.2.2.2.1 i hi).1
  obtain ⟨z1, z2, z3, z4, z5⟩ := hz
  have hzz : xi_z S (7 + i) 12 := ⟨z1, z2, z3, z4, z5⟩
  generalize hS' : xc_hand S i d r = S'
  have N : ∀ j, nz S' j = if j = 7 + i then nz S (7 + i) + 1 else nz S j := fun j => by rw [← hS', xs_hnz hzz (by decide)]
  have K : ∀ j, cz S' j = if j = 7 + i then na_C (nz S (7 + i)) (cz S (7 + i)) else cz S j := fun j => by rw [← hS', xs_hcz hzz (by decide)]
  have R : ∀ k, k ≠ 20 ∧ k ≠ 21 ∧ k ≠ 22 → k ≠ 70 → k ≠ 71 → S' k = S k := fun k a b c => by rw [← hS', xs_hrow a b c]
  have r20 : ∀ j, S' 20 j = if j = 7 + i then S 20 (7 + i) + 1 else S 20 j := fun j => by
    rw [← hS']; unfold xc_hand; rw [gs_up_row (by decide), gs_up_row (by decide), xs_20]; rfl
  have r21 : ∀ j, S' 21 j = if j = 7 + i then S 21 (7 + i) + 1 else S 21 j := fun j => by
    rw [← hS']; unfold xc_hand; rw [gs_up_row (by decide), gs_up_row (by decide), xs_21]; rfl
  have r22 : ∀ j, S' 22 j = if j = 7 + i then nI (na_C (nz S (7 + i)) (cz S (7 + i))) else S 22 j := fun j => by
    rw [← hS']; unfold xc_hand; rw [gs_up_row (by decide), gs_up_row (by decide), xs_22]; rfl
  have r70 : ∀ j, S' 70 j = if j = 16 * i + nz S (7 + i) then d else S 70 j := fun j => by
    rw [← hS']; unfold xc_hand; rw [gs_up_row (by decide), gs_up_at, xs_row ⟨by decide, by decide, by decide⟩]; rfl
  have r71 : ∀ j, S' 71 j = if j = 16 * i + nz S (7 + i) then r else S 71 j := fun j => by
    rw [← hS']; unfold xc_hand; rw [gs_up_at, gs_up_row (by decide), xs_row ⟨by decide, by decide, by decide⟩]; rfl
  have nb := na_Cb (nz S (7 + i)) (by omega) (cz S (7 + i)) (by omega) z3
  have e1 : nz S' 1 = nz S 1 := by rw [N, if_neg (by omega)]
  have e2 : nz S' 2 = nz S 2 := by rw [N, if_neg (by omega)]
  have gu : ∀ u j, u ≠ 2 → na_ad (7 + i) q g u j = g u j := fun u j hne => if_neg (fun z => hne z.1)
  refine ⟨na_ad (7 + i) q g, fun u => if u = 7 + i then hq else h u, gu, ?_, ?_⟩
  · intro z hz j hj
    rw [e1] at hz
    show (if z = 7 + i then hq else h z) j = _
    by_cases e : z = 7 + i
    · subst e
      rw [if_pos rfl]
      rw [N, if_pos rfl] at hj
      unfold xel
      rw [if_neg (by omega), if_neg (by omega), if_neg (by omega), if_neg (by omega), show 7 + i - 7 = i by omega, gu 5 _ (by decide)]
      by_cases ej : j = nz S (7 + i)
      · subst ej
        rw [b2]
      · rw [b1 j (by omega), hh _ hz j (by omega)]
        unfold xel
        rw [if_neg (by omega), if_neg (by omega), if_neg (by omega), if_neg (by omega), show 7 + i - 7 = i by omega]
    · rw [if_neg e]
      rw [N, if_neg e] at hj
      rw [hh _ hz j hj]
      unfold xel
      rw [gu 1 _ (by decide), gu 3 _ (by decide), gu 4 _ (by decide), gu 5 _ (by decide), R 72 ⟨by decide, by decide, by decide⟩ (by decide) (by decide)]
  · refine x_added hk (by rw [r20, if_pos rfl]) ?_ (by rw [K, if_pos rfl]) nb.1 (Or.inr (show 7 + i < 7 + nz S 1 by omega)) (fun u j ho c1 c2 => ?_)
    · rw [r21, if_pos rfl, z1]; exact nI_1 _
    · by_cases c : u = 5 ∧ j = 16 * i + nz S (7 + i)
      · refine ⟨Or.inl c, ?_⟩
        obtain ⟨rfl, rfl⟩ := c
        rw [ge_s]
        show (Sum.inr (3, [.int (S' 70 _), .int (S' 71 _)]) : va_E) = _
        rw [r70, if_pos rfl, r71, if_pos rfl]
      · rw [ge_n c]
        have w : ∀ k, k ≠ 20 ∧ k ≠ 21 ∧ k ≠ 22 → k ≠ 70 → k ≠ 71 → S' k j = S k j := fun k a b c => by rw [R k a b c]
        have key : xok S u j ∧ xsm g (na_ad (7 + i) q g) h (fun u => if u = 7 + i then hq else h u) S S' u j := by
          match u, ho with
          | 0, ho =>
            have hj : j = 0 := ho
            exact ⟨hj, fun k hk => by rw [R k (by omega) (by omega) (by omega)]⟩
          | 1, ho =>
            have ho : j < 7 + nz S' 1 := ho
            rw [e1] at ho
            have e : j ≠ 7 + i := fun z => c1 ⟨rfl, z⟩
            exact ⟨ho, by rw [r20, if_neg e], by rw [r21, if_neg e], by rw [r22, if_neg e], if_neg (fun z => e z.2)⟩
          | 2, ho =>
            have ho : j < 7 + nz S' 1 ∧ cz S' j ≠ 0 := ho
            have e : j ≠ 7 + i := fun z => c2 ⟨rfl, z⟩
            rw [e1, K, if_neg e] at ho
            exact ⟨ho, by rw [r22, if_neg e], if_neg e⟩
          | 3, ho =>
            have ho : j < nz S' 1 := ho
            rw [e1] at ho
            exact ⟨ho, fun k hk => w _ (by omega) (by omega) (by omega)⟩
          | 4, ho =>
            have ho : j < nz S' 2 := ho
            rw [e2] at ho
            exact ⟨ho, fun k hk => w _ (by omega) (by omega) (by omega)⟩
          | 5, ho =>
            have ho : j / 16 < nz S' 1 ∧ j % 16 < nz S' (7 + j / 16) := ho
            rw [e1, N] at ho
            have e : j ≠ 16 * i + nz S (7 + i) := fun z => c ⟨rfl, z⟩
            refine ⟨?_, by rw [r70, if_neg e], by rw [r71, if_neg e]⟩
            show j / 16 < nz S 1 ∧ j % 16 < nz S (7 + j / 16)
            refine ⟨ho.1, ?_⟩
            by_cases f : 7 + j / 16 = 7 + i
            · have h2 := ho.2
              rw [if_pos f] at h2
              rw [f]
              omega
            · have h2 := ho.2
              rw [if_neg f] at h2
              exact h2
          | 6, ho =>
            have hj : 1 ≤ j ∧ j ≤ 4 := ho
            exact ⟨show xok S 6 j from hj, R j ⟨by omega, by omega, by omega⟩ (by omega) (by omega)⟩
          | u + 7, ho => exact ho.elim
        exact ⟨Or.inr key.1, xen_same (fun u j hne _ _ => gu u j hne) key.1 key.2⟩
theorem x_shifted {E : en_T} {C : ex_C} {g : kw_A} {h : xh_T} {S : gs_T} {A : Nat → Prop} {H : Heap} {i : Nat} (hi : i < nz S 1) (hn : nz S (7 + i) = 13) (hb : ∀ j, j < nz S 1 → j ≠ i → nz S (7 + j) ≤ 12) (hh : xh C g h S) (hW : rm_W E (xok S) g (xen E C g h S) A (7 + i) (S 20 (7 + i)) 1 12 (cz S (7 + i)) (h (7 + i)) H) (hc : cz S (7 + i) ≠ 0) :
    ∃ (g' : kw_A) (h' : xh_T), (∀ u j, u ≠ 5 → g' u j = g u j) ∧ xh C g' h' (xc_shift S i) ∧ xw E C g' h' (xc_shift S i) A H := by
  generalize hS' : xc_shift S i = S'
  have P : ∀ k j, S' k j = if (k = 70 ∨ k = 71) ∧ j / 16 = i ∧ 1 ≤ j % 16 then S k (j + 1) else if k = 20 ∧ j = 7 + i then S 20 j + 1 else if k = 21 ∧ j = 7 + i then nI 12 else S k j := fun k j => by rw [← hS']; rfl
  have R : ∀ k j, k ≠ 20 → k ≠ 21 → k ≠ 70 → k ≠ 71 → S' k j = S k j := fun k j a b c d => by
    rw [P, if_neg (fun z => z.1.elim c d), if_neg (fun z => a z.1), if_neg (fun z => b z.1)]
  have r20 : ∀ j, S' 20 j = if j = 7 + i then S 20 j + 1 else S 20 j := fun j => by
    rw [P, if_neg (fun z => by have := z.1; omega)]
    by_cases e : j = 7 + i
    · rw [if_pos ⟨rfl, e⟩, if_pos e]
    · rw [if_neg (fun z => e z.2), if_neg (fun z => e z.2), if_neg e]
  have r21 : ∀ j, S' 21 j = if j = 7 + i then nI 12 else S 21 j := fun j => by
    rw [P, if_neg (fun z => by have := z.1; omega), if_neg (fun z => absurd z.1 (by decide))]
    by_cases e : j = 7 + i
    · rw [if_pos ⟨rfl, e⟩, if_pos e]
    · rw [if_neg (fun z => e z.2), if_neg e]
  have N : ∀ j, nz S' j = if j = 7 + i then 12 else nz S j := fun j => by
    unfold nz
    rw [r21]
    by_cases e : j = 7 + i
    · rw [if_pos e, if_pos e]; exact nI_clamp (by decide)
    · rw [if_neg e, if_neg e]
  have K : ∀ j, cz S' j = cz S j := fun j => by unfold cz; rw [R 22 j (by decide) (by decide) (by decide) (by decide)]
  have e1 : nz S' 1 = nz S 1 := by rw [N, if_neg (by omega)]
  have e2 : nz S' 2 = nz S 2 := by rw [N, if_neg (by omega)]
  let σ : Nat → Nat → Nat := fun u j => if u = 5 ∧ j / 16 = i ∧ 1 ≤ j % 16 then j + 1 else j
  let g' : kw_A := fun u j => g u (σ u j)
  have s5 : ∀ u j, u ≠ 5 → σ u j = j := fun u j hu => if_neg (fun z => hu z.1)
  have gu : ∀ u j, u ≠ 5 → g' u j = g u j := fun u j hu => by show g u (σ u j) = _; rw [s5 u j hu]
  have g5 : ∀ j, j / 16 = i → 1 ≤ j % 16 → σ 5 j = j + 1 := fun j a b => if_pos ⟨rfl, a, b⟩
  have g5' : ∀ j, ¬ (j / 16 = i ∧ 1 ≤ j % 16) → σ 5 j = j := fun j a => if_neg (fun z => a z.2)
  refine ⟨g', fun u => if u = 7 + i then rm_h (h (7 + i)) 1 12 else h u, gu, ?_, ?_⟩
  · intro z hz j hj
    rw [e1] at hz
    show (if z = 7 + i then rm_h (h (7 + i)) 1 12 else h z) j = _
    by_cases e : z = 7 + i
    · subst e
      rw [if_pos rfl]
      rw [N, if_pos rfl] at hj
      have hx : ∀ (g : kw_A) (S : gs_T) (j : Nat), xel C g S (7 + i) j = g 5 (16 * i + j) := fun g S j => by
        unfold xel
        rw [if_neg (by omega), if_neg (by omega), if_neg (by omega), if_neg (by omega), show 7 + i - 7 = i by omega]
      rw [rm_at (by decide) hj, hx]
      show _ = some (g 5 (σ 5 (16 * i + j)))
      by_cases c : j < 1
      · rw [if_pos c, g5' _ (fun z => by omega), hh _ hz j (by omega), hx]
      · rw [if_neg c, g5 _ (by omega) (by omega), hh _ hz (j + 1) (by omega), hx]
        rfl
    · rw [if_neg e]
      rw [N, if_neg e] at hj
      rw [hh _ hz j hj]
      unfold xel
      rw [gu 1 _ (by decide), gu 3 _ (by decide), gu 4 _ (by decide), R 72 _ (by decide) (by decide) (by decide) (by decide)]
      by_cases c3 : z < 7
      · by_cases c0 : z = 0
        · rw [if_pos c0, if_pos c0]
        by_cases c1 : z = 1
        · rw [if_neg c0, if_neg c0, if_pos c1, if_pos c1]
        by_cases c2 : z = 2
        · rw [if_neg c0, if_neg c0, if_neg c1, if_neg c1, if_pos c2, if_pos c2]
        rw [if_neg c0, if_neg c0, if_neg c1, if_neg c1, if_neg c2, if_neg c2, if_pos c3, if_pos c3]
      · have h12 := hb (z - 7) (by omega) (by omega)
        rw [show 7 + (z - 7) = z by omega] at h12
        have : g' 5 (16 * (z - 7) + j) = g 5 (16 * (z - 7) + j) := by
          show g 5 (σ 5 _) = _
          rw [g5' _ (fun w => by omega)]
        rw [this]
  · refine kw.re σ hW (fun u j ho => ?_) (fun t a b ha hb e => ?_)
    · have w : ∀ k, k ≠ 20 → k ≠ 21 → k ≠ 70 → k ≠ 71 → S' k j = S k j := fun k a b c d => R k j a b c d
      by_cases c1 : u = 1 ∧ j = 7 + i
      · obtain ⟨rfl, rfl⟩ := c1
        rw [s5 1 _ (by decide)]
        refine ⟨show 7 + i < 7 + nz S 1 by omega, gu 1 _ (by decide), ?_⟩
        refine Eq.trans ?_ (if_pos ⟨rfl, rfl⟩).symm
        show (Sum.inr (5, [.int (S' 20 (7 + i)), .ref (if cz S' (7 + i) = 0 then C.2.1 else g' 2 (7 + i)), .int (S' 21 (7 + i))]) : va_E) = _
        rw [K, if_neg hc, gu 2 _ (by decide), r20, if_pos rfl, r21, if_pos rfl]
      by_cases c2 : u = 2 ∧ j = 7 + i
      · obtain ⟨rfl, rfl⟩ := c2
        rw [s5 2 _ (by decide)]
        refine ⟨⟨show 7 + i < 7 + nz S 1 by omega, hc⟩, gu 2 _ (by decide), ?_⟩
        refine Eq.trans ?_ ((if_neg (fun z => absurd z.1 (by decide))).trans (if_pos ⟨rfl, rfl⟩)).symm
        show (Sum.inl (E.2.2.2.2, cz S' (7 + i), .inr (.inr (.inr (.inr (if 7 + i = 7 + i then rm_h (h (7 + i)) 1 12 else h (7 + i)))))) : va_E) = _
        rw [K, if_pos rfl]
      by_cases c5 : u = 5
      · subst c5
        have ho : j / 16 < nz S' 1 ∧ j % 16 < nz S' (7 + j / 16) := ho
        rw [e1, N] at ho
        have L5 : xen E C g' (fun u => if u = 7 + i then rm_h (h (7 + i)) 1 12 else h u) S' 5 j = .inr (3, [.int (S' 70 j), .int (S' 71 j)]) := rfl
        have R5 : ∀ x, la_en (7 + i) (.inr (5, [.int (S 20 (7 + i) + 1), .ref (g 2 (7 + i)), .int (nI 12)])) (aa_en (7 + i) (na_x E (cz S (7 + i)) (rm_h (h (7 + i)) 1 12)) (xen E C g h S)) 5 x = .inr (3, [.int (S 70 x), .int (S 71 x)]) := fun x => (if_neg (fun z => absurd z.1 (by decide))).trans (if_neg (fun z => absurd z.1 (by decide)))
        refine ⟨?_, rfl, ?_⟩
        · show σ 5 j / 16 < nz S 1 ∧ σ 5 j % 16 < nz S (7 + σ 5 j / 16)
          by_cases f : j / 16 = i
          · have h2 := ho.2
            rw [if_pos (by omega)] at h2
            by_cases f1 : 1 ≤ j % 16
            · rw [g5 j f f1, show (j + 1) / 16 = i by omega, hn]
              omega
            · rw [g5' j (fun z => f1 z.2), f, hn]
              omega
          · have h2 := ho.2
            rw [if_neg (by omega)] at h2
            rw [g5' j (fun z => f z.1)]
            exact ⟨ho.1, h2⟩
        · rw [L5, R5]
          by_cases f : j / 16 = i ∧ 1 ≤ j % 16
          · have a1 : S' 70 j = S 70 (j + 1) := by rw [P, if_pos ⟨Or.inl rfl, f⟩]
            have a2 : S' 71 j = S 71 (j + 1) := by rw [P, if_pos ⟨Or.inr rfl, f⟩]
            rw [a1, a2, g5 j f.1 f.2]
          · have a1 : S' 70 j = S 70 j := by rw [P, if_neg (fun z => f z.2), if_neg (fun z => absurd z.1 (by decide)), if_neg (fun z => absurd z.1 (by decide))]
            have a2 : S' 71 j = S 71 j := by rw [P, if_neg (fun z => f z.2), if_neg (fun z => absurd z.1 (by decide)), if_neg (fun z => absurd z.1 (by decide))]
            rw [a1, a2, g5' j f]
      · rw [s5 u j c5]
        have key : xok S u j ∧ xsm g g' h (fun u => if u = 7 + i then rm_h (h (7 + i)) 1 12 else h u) S S' u j := by
          match u, ho with
          | 0, ho =>
            have hj : j = 0 := ho
            subst hj
            exact ⟨rfl, fun k hk => w k (by omega) (by omega) (by omega) (by omega)⟩
          | 1, ho =>
            have ho : j < 7 + nz S' 1 := ho
            rw [e1] at ho
            have e : j ≠ 7 + i := fun z => c1 ⟨rfl, z⟩
            exact ⟨ho, by rw [r20, if_neg e], by rw [r21, if_neg e], w 22 (by decide) (by decide) (by decide) (by decide), gu 2 j (by decide)⟩
          | 2, ho =>
            have ho : j < 7 + nz S' 1 ∧ cz S' j ≠ 0 := ho
            rw [e1, K] at ho
            exact ⟨ho, w 22 (by decide) (by decide) (by decide) (by decide), if_neg (fun z => c2 ⟨rfl, z⟩)⟩
          | 3, ho =>
            have ho : j < nz S' 1 := ho
            rw [e1] at ho
            exact ⟨ho, fun k hk => w _ (by omega) (by omega) (by omega) (by omega)⟩
          | 4, ho =>
            have ho : j < nz S' 2 := ho
            rw [e2] at ho
            exact ⟨ho, fun k hk => w _ (by omega) (by omega) (by omega) (by omega)⟩
          | 5, ho => exact absurd rfl c5
          | 6, ho =>
            have hj : 1 ≤ j ∧ j ≤ 4 := ho
            exact ⟨show xok S 6 j from hj, funext (fun x => R j x (by omega) (by omega) (by omega) (by omega))⟩
          | u + 7, ho => exact ho.elim
        refine ⟨key.1, gu u j c5, ?_⟩
        refine Eq.trans ?_ ((if_neg (fun z => c1 z)).trans (if_neg (fun z => c2 z))).symm
        exact xen_same (fun v k _ h5 _ => gu v k h5) key.1 key.2
    · by_cases c : t = 5
      · subst c
        have ha : a / 16 < nz S' 1 ∧ a % 16 < nz S' (7 + a / 16) := ha
        have hb : b / 16 < nz S' 1 ∧ b % 16 < nz S' (7 + b / 16) := hb
        rw [e1, N] at ha hb
        have ha2 := ha.2
        have hb2 := hb.2
        by_cases f : a / 16 = i ∧ 1 ≤ a % 16 <;> by_cases f' : b / 16 = i ∧ 1 ≤ b % 16
        · rw [g5 a f.1 f.2, g5 b f'.1 f'.2] at e; omega
        · rw [g5 a f.1 f.2, g5' b f'] at e
          rw [if_pos (by omega)] at ha2
          omega
        · rw [g5' a f, g5 b f'.1 f'.2] at e
          rw [if_pos (by omega)] at hb2
          omega
        · rw [g5' a f, g5' b f'] at e; exact e
      · rw [s5 t a c, s5 t b c] at e; exact e
def xc_come1 (S : gs_T) (i : Nat) (r : Int32) : gs_T := if nz S (7 + i) < 12 then xc_hand S i (S 0 0) r else xc_shift (xc_hand S i (S 0 0) r) i
def xc_come (S : gs_T) (i : Nat) (r : Int32) : gs_T := xc_come1 (gs_up (gs_up S 39 i r) 36 i 0) i r
/-- sizes after a hand was added -/
theorem xs_hz {S : gs_T} {i : Nat} {d r : Int32} (hI : xi_ok S) (hi : i < nz S 1) : nz (xc_hand S i d r) (7 + i) = nz S (7 + i) + 1 ∧ (xc_hand S i d r) 21 (7 + i) = nI (nz S (7 + i) + 1) ∧ (nz S (7 + i) + 1 ≤ cz (xc_hand S i d r) (7 + i) ∧ cz (xc_hand S i d r) (7 + i) ≤ 100) ∧ nz (xc_hand S i d r) 1 = nz S 1 ∧ (∀ j, j < nz S 1 → j ≠ i → nz (xc_hand S i d r) (7 + j) ≤ 12) ∧ nz S (7 + i) ≤ 12 := by
  have hz : xi_z S (7 + i) 12 := (hI.2.2.2.2.1 i hi).1
  obtain ⟨z1, z2, z3, z4, z5⟩ := hz
  have hzz : xi_z S (7 + i) 12 := ⟨z1, z2, z3, z4, z5⟩
  have nb := na_Cb (nz S (7 + i)) (by omega) (cz S (7 + i)) (by omega) z3
  refine ⟨by rw [xs_hnz hzz (by decide), if_pos rfl], ?_, ?_, by rw [xs_hnz hzz (by decide), if_neg (by omega)], fun j hj hne => ?_, z2⟩
  · unfold xc_hand
    rw [gs_up_row (by decide), gs_up_row (by decide), xs_21]
    show (if 7 + i = 7 + i then S 21 (7 + i) + 1 else S 21 (7 + i)) = _
    rw [if_pos rfl, z1]
    exact nI_1 _
  · rw [xs_hcz hzz (by decide), if_pos rfl]
    exact ⟨nb.2.2, nb.2.1⟩
  · rw [xs_hnz hzz (by decide), if_neg (by omega)]
    exact (hI.2.2.2.2.1 j hj).1.2.1
theorem xg_rm {E : en_T} {C : ex_C} {g : kw_A} {h : xh_T} {S : gs_T} {i : Nat} (hi : i < nz S 1) (hn : nz S (7 + i) = 13) (h21 : S 21 (7 + i) = nI 13) (hc : 13 ≤ cz S (7 + i)) (hc2 : cz S (7 + i) ≤ 100) (hh : xh C g h S) : rm_P E C (xok S) g (xen E C g h S) (7 + i) (S 20 (7 + i)) 1 12 (cz S (7 + i)) (h (7 + i)) ∧ h (7 + i) 1 = some (g 5 (16 * i + 1)) := by
  have hz : 7 + i < 7 + nz S 1 := by omega
  have hc0 : cz S (7 + i) ≠ 0 := by omega
  have el : ∀ j, j < 13 → h (7 + i) j = some (g 5 (16 * i + j)) := fun j hj => by
    rw [hh (7 + i) hz j (by omega)]
    unfold xel
    rw [if_neg (by omega), if_neg (by omega), if_neg (by omega), if_neg (by omega), show 7 + i - 7 = i by omega]
  refine ⟨⟨hz, ?_, ⟨hz, hc0⟩, rfl, by omega, by omega, by decide, fun j hj y hy => ?_⟩, el 1 (by decide)⟩
  · rw [xe_1 hc0, h21]
  · rw [el j hj] at hy
    cases hy
    refine Or.inl ⟨5, 16 * i + j, 3, _, ?_, rfl, rfl, by simp⟩
    show (16 * i + j) / 16 < nz S 1 ∧ (16 * i + j) % 16 < nz S (7 + (16 * i + j) / 16)
    rw [show (16 * i + j) / 16 = i by omega, show (16 * i + j) % 16 = j by omega, hn]
    exact ⟨hi, hj⟩
theorem xs_come_1 {S : gs_T} {i : Nat} {r : Int32} (h : ¬ (12 : Int32) < nI (nz S (7 + i) + 1)) (hn : nz S (7 + i) ≤ 12) : xc_come1 S i r = xc_hand S i (S 0 0) r := if_pos (by
  rcases Nat.lt_or_ge (nz S (7 + i)) 12 with q | q
  · exact q
  · exact absurd (nI_lt (a := 12) (by omega) (by omega)) h)
theorem xs_come_2 {S : gs_T} {i : Nat} {r : Int32} (h : (12 : Int32) < nI (nz S (7 + i) + 1)) (hn : nz S (7 + i) ≤ 12) : xc_come1 S i r = xc_shift (xc_hand S i (S 0 0) r) i ∧ nz S (7 + i) = 12 := by
  have : 12 < nz S (7 + i) + 1 := (nI_ltI (a := 12) (by decide) (by omega)).mp h
  exact ⟨if_neg (by omega), by omega⟩
