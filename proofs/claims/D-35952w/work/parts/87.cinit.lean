/-! Lostroom's constructor: stages of its fields -/
def ck_r (b : Bool) (a : Nat) : Value := bif b then .ref a else .null
def ck_fs (g : kw_A) (k : Nat) : List Value := [.int 0, ck_r (Nat.blt 1 k) (g 6 1), ck_r (Nat.blt 2 k) (g 6 2), ck_r (Nat.blt 3 k) (g 6 3), ck_r (Nat.blt 4 k) (g 6 4), ck_r (Nat.blt 5 k) (g 1 0), .int (bif Nat.blt 6 k then 50 else 0), ck_r (Nat.blt 7 k) (g 1 1), ck_r (Nat.blt 8 k) (g 1 2), .int 0, .int 0, .int 0]
def okK (k : Nat) : Nat → Nat → Prop := fun u j => (u = 0 ∧ j = 0) ∨ (u = 6 ∧ 1 ≤ j ∧ j ≤ 4 ∧ j < k) ∨ (u = 1 ∧ ((j = 0 ∧ 5 < k) ∨ (j = 1 ∧ 7 < k) ∨ (j = 2 ∧ 8 < k)))
def enK (E : en_T) (C : ex_C) (g : kw_A) (k : Nat) : Nat → Nat → va_E := fun u j => if u = 0 then .inr (0, ck_fs g k) else xen E C g (fun _ _ => none) (fun _ _ => 0) u j
theorem ck_al {b : Bool} {a a' : Nat} (h : b = true → a = a') : ck_r b a = ck_r b a' := by
  cases b
  · rfl
  · rw [h rfl]
theorem enK_al {E : en_T} {C : ex_C} {g g' : kw_A} {k t i : Nat} (hno : ¬ okK k t i) (hg : ∀ u j, ¬ (u = t ∧ j = i) → g' u j = g u j) : ∀ u j, okK k u j → enK E C g' k u j = enK E C g k u j := by
  intro u j ho
  have w : ∀ u j, okK k u j → g' u j = g u j := fun u j ho => hg u j (fun z => hno (by obtain ⟨rfl, rfl⟩ := z; exact ho))
  rcases ho with ⟨rfl, rfl⟩ | ⟨rfl, h1⟩ | ⟨rfl, h1⟩
  · show (Sum.inr (0, ck_fs g' k) : va_E) = .inr (0, ck_fs g k)
    have b : ∀ {a}, Nat.blt a k = true → a < k := fun h => Nat.le_of_ble_eq_true h
    unfold ck_fs
    rw [ck_al (fun h => w 6 1 (Or.inr (Or.inl ⟨rfl, by decide, by decide, b h⟩))), ck_al (fun h => w 6 2 (Or.inr (Or.inl ⟨rfl, by decide, by decide, b h⟩))), ck_al (fun h => w 6 3 (Or.inr (Or.inl ⟨rfl, by decide, by decide, b h⟩))), ck_al (fun h => w 6 4 (Or.inr (Or.inl ⟨rfl, by decide, by decide, b h⟩))), ck_al (fun h => w 1 0 (Or.inr (Or.inr ⟨rfl, Or.inl ⟨rfl, b h⟩⟩))), ck_al (fun h => w 1 1 (Or.inr (Or.inr ⟨rfl, Or.inr (Or.inl ⟨rfl, b h⟩)⟩))), ck_al (fun h => w 1 2 (Or.inr (Or.inr ⟨rfl, Or.inr (Or.inr ⟨rfl, b h⟩)⟩)))]
  · rfl
  · rfl
/-- stores of the constructor's end: i trains -/
def sI (i : Nat) : gs_T := fun k j => if k = 3 then fl (fun _ => 0) 8 60 j else if k = 6 ∧ j = 0 then 50 else if (k = 20 ∨ k = 21) ∧ j = 0 then nI i else if k = 22 ∧ j = 0 then (if i = 0 then 0 else 10) else 0
def okC (m : Nat) (b : Bool) : Nat → Nat → Prop := fun u j => (u = 0 ∧ j = 0) ∨ (u = 6 ∧ 1 ≤ j ∧ j ≤ 4) ∨ (u = 1 ∧ j < m) ∨ (u = 2 ∧ j = 0 ∧ b = true)
theorem sI_3 {i : Nat} : sI i 3 = fl (fun _ => 0) 8 60 := funext (fun _ => if_pos rfl)
theorem sI_20 {i j : Nat} : sI i 20 j = if j = 0 then nI i else 0 := by
  unfold sI
  rw [if_neg (by decide), if_neg (fun z => absurd z.1 (by decide))]
  by_cases c : j = 0
  · rw [if_pos ⟨Or.inl rfl, c⟩, if_pos c]
  · rw [if_neg (fun z => c z.2), if_neg (fun z => c z.2), if_neg c]
theorem sI_21 {i j : Nat} : sI i 21 j = if j = 0 then nI i else 0 := by
  unfold sI
  rw [if_neg (by decide), if_neg (fun z => absurd z.1 (by decide))]
  by_cases c : j = 0
  · rw [if_pos ⟨Or.inr rfl, c⟩, if_pos c]
  · rw [if_neg (fun z => c z.2), if_neg (fun z => c z.2), if_neg c]
theorem sI_22 {i j : Nat} : sI i 22 j = if j = 0 then (if i = 0 then 0 else 10) else 0 := by
  unfold sI
  rw [if_neg (by decide), if_neg (fun z => absurd z.1 (by decide)), if_neg (fun z => by omega)]
  by_cases c : j = 0
  · rw [if_pos ⟨rfl, c⟩, if_pos c]
  · rw [if_neg (fun z => c z.2), if_neg c]
theorem sI_n {i k j : Nat} (h3 : k ≠ 3) (h6 : k ≠ 6) (h20 : k ≠ 20 ∧ k ≠ 21 ∧ k ≠ 22) : sI i k j = 0 := by
  unfold sI
  rw [if_neg h3, if_neg (fun z => h6 z.1), if_neg (fun z => by omega), if_neg (fun z => by omega)]
theorem sI_6 {i j : Nat} : sI i 6 j = if j = 0 then 50 else 0 := by
  unfold sI
  rw [if_neg (by decide)]
  by_cases c : j = 0
  · rw [if_pos ⟨rfl, c⟩, if_pos c]
  · rw [if_neg (fun z => c z.2), if_neg (fun z => by omega), if_neg (fun z => by omega), if_neg c]
theorem sI_nz {i z : Nat} (hi : i < 1000) : nz (sI i) z = if z = 0 then i else 0 := by
  unfold nz
  rw [sI_21]
  by_cases c : z = 0
  · rw [if_pos c, if_pos c]; exact nI_clamp (by omega)
  · rw [if_neg c, if_neg c]; rfl
theorem sI_cz {i z : Nat} : cz (sI i) z = if z = 0 then (if i = 0 then 0 else 10) else 0 := by
  unfold cz
  rw [sI_22]
  by_cases c : z = 0
  · rw [if_pos c, if_pos c]
    by_cases d : i = 0
    · rw [if_pos d, if_pos d]; rfl
    · rw [if_neg d, if_neg d]; rfl
  · rw [if_neg c, if_neg c]; rfl
abbrev cI (i : Nat) : Nat := if i = 0 then 0 else 10
theorem x_filled {E : en_T} {C : ex_C} {g : kw_A} {A : Nat → Prop} {H : Heap} (hR : kw E (okK 9) g (ge_en 6 3 (.inl (E.2.1, 8, .inl (fl (fun _ => 0) 8 60))) (enK E C g 9)) A H) : kw E (okC 3 false) g (xen E C g (fun _ _ => none) (sI 0)) A H := by
  refine hR.less (fun u j ho => ?_)
  rcases ho with ⟨rfl, rfl⟩ | ⟨rfl, h1⟩ | ⟨rfl, h1⟩ | ⟨rfl, -, h⟩
  · refine ⟨Or.inl ⟨rfl, rfl⟩, rfl, ?_⟩
    refine Eq.trans ?_ (ge_n (fun z => absurd z.1 (by decide))).symm
    show (Sum.inr (0, xfs g (sI 0)) : va_E) = .inr (0, ck_fs g 9)
    have e : xfs g (sI 0) = ck_fs g 9 := by
      simp only [xfs]
      rw [sI_n (by decide) (by decide) ⟨by decide, by decide, by decide⟩, sI_n (k := 9) (by decide) (by decide) ⟨by decide, by decide, by decide⟩, sI_n (k := 10) (by decide) (by decide) ⟨by decide, by decide, by decide⟩, sI_n (k := 11) (by decide) (by decide) ⟨by decide, by decide, by decide⟩, sI_6, if_pos rfl]
      rfl
    rw [e]
  · refine ⟨Or.inr (Or.inl ⟨rfl, h1.1, h1.2, by omega⟩), rfl, ?_⟩
    show (Sum.inl (E.2.1, (if j = 1 then 24 else 8), .inl (sI 0 j)) : va_E) = _
    by_cases c : j = 3
    · subst c
      rw [ge_s, sI_3]
      rfl
    · rw [ge_n (fun z => c z.2)]
      have : sI 0 j = fun _ => 0 := funext (fun x => sI_n c (by omega) ⟨by omega, by omega, by omega⟩)
      rw [this]
      rfl
  · refine ⟨Or.inr (Or.inr ⟨rfl, by omega⟩), rfl, ?_⟩
    refine Eq.trans ?_ (ge_n (fun z => absurd z.1 (by decide))).symm
    show (Sum.inr (5, [.int (sI 0 20 j), .ref (if cz (sI 0) j = 0 then C.2.1 else g 2 j), .int (sI 0 21 j)]) : va_E) = .inr (5, [.int 0, .ref C.2.1, .int 0])
    have e : cz (sI 0) j = 0 := by rw [sI_cz]; by_cases c : j = 0 <;> simp [c]
    have e1 : sI 0 20 j = 0 := by rw [sI_20]; by_cases c : j = 0 <;> simp [c]; rfl
    have e2 : sI 0 21 j = 0 := by rw [sI_21]; by_cases c : j = 0 <;> simp [c]; rfl
    rw [e, if_pos rfl, e1, e2]
  · cases h
theorem c_adP {E : en_T} {C : ex_C} {g : kw_A} {h : xh_T} {i : Nat} (hi : i < 4) (hh : ∀ j, j < i → h 0 j = some (g 1 (3 + j))) : ad_P E C (okC (4 + i) (decide (0 < i))) g (xen E C g h (sI i)) 0 (nI i) i (cI i) (h 0) (g 1 (3 + i)) := by
  refine ⟨fun j ho => ?_, Or.inr (Or.inr (Or.inl ⟨rfl, by omega⟩)), ?_, fun hc => ⟨Or.inr (Or.inr (Or.inr ⟨rfl, rfl, ?_⟩)), ?_⟩, ?_, ?_, fun j hj y hy => ?_, ?_⟩
  · rcases ho with h | h | h | h
    · exact absurd h.1 (by decide)
    · exact absurd h.1 (by decide)
    · exact absurd h.1 (by decide)
    · exact absurd h.1 (by decide)
  · show (Sum.inr (5, [.int (sI i 20 0), .ref (if cz (sI i) 0 = 0 then C.2.1 else g 2 0), .int (sI i 21 0)]) : va_E) = _
    simp only [sI_20, sI_21, sI_cz, if_true]
  · refine decide_eq_true ?_
    rcases Nat.eq_zero_or_pos i with rfl | p
    · exact absurd rfl hc
    · exact p
  · show (Sum.inl (E.2.2.2.2, cz (sI i) 0, .inr (.inr (.inr (.inr (h 0))))) : va_E) = _
    rw [sI_cz, if_pos rfl]
  · unfold cI
    split <;> omega
  · unfold cI
    split <;> omega
  · rw [hh j hj] at hy
    cases hy
    exact Or.inl ⟨1, 3 + j, 5, _, Or.inr (Or.inr (Or.inl ⟨rfl, by omega⟩)), rfl, rfl, by simp⟩
  · exact Or.inl ⟨1, 3 + i, 5, _, Or.inr (Or.inr (Or.inl ⟨rfl, by omega⟩)), rfl, rfl, by simp⟩
theorem c_add {E : en_T} {C : ex_C} {g : kw_A} {h : xh_T} {A : Nat → Prop} {H : Heap} {i : Nat} (hi : i < 4) (hh : ∀ j, j < i → h 0 j = some (g 1 (3 + j))) (hW : ad_W E (okC (4 + i) (decide (0 < i))) g (xen E C g h (sI i)) A 0 (nI i + 1) i (cI i) (h 0) (g 1 (3 + i)) H) :
    ∃ (g' : kw_A) (h' : xh_T), (∀ u j, u ≠ 2 → g' u j = g u j) ∧ (∀ j, j < i + 1 → h' 0 j = some (g' 1 (3 + j))) ∧ kw E (okC (4 + i) (decide (0 < i + 1))) g' (xen E C g' h' (sI (i + 1))) A H := by
  obtain ⟨q, hq, b1, b2, hk⟩ := hW
  have gu : ∀ u j, u ≠ 2 → na_ad 0 q g u j = g u j := fun u j hne => if_neg (fun z => hne z.1)
  refine ⟨na_ad 0 q g, fun u => if u = 0 then hq else h u, gu, fun j hj => ?_, hk.less (fun u j ho => ?_)⟩
  · show (if 0 = 0 then hq else h 0) j = _
    rw [if_pos rfl, gu 1 _ (by decide)]
    by_cases c : j = i
    · subst c; exact b2
    · rw [b1 j (by omega), hh j (by omega)]
  · rcases ho with ⟨rfl, rfl⟩ | ⟨rfl, h1⟩ | ⟨rfl, h1⟩ | ⟨rfl, rfl, -⟩
    · refine ⟨Or.inr (Or.inl ⟨rfl, rfl⟩), rfl, ?_⟩
      refine Eq.trans ?_ (na_e (fun z => absurd z.1 (by decide)) (fun z => absurd z.1 (by decide))).symm
      show (Sum.inr (0, xfs (na_ad 0 q g) (sI (i + 1))) : va_E) = .inr (0, xfs g (sI i))
      have e : xfs (na_ad 0 q g) (sI (i + 1)) = xfs g (sI i) := by
        simp only [xfs]
        rw [gu 6 _ (by decide), gu 6 _ (by decide), gu 6 _ (by decide), gu 6 _ (by decide), gu 1 _ (by decide), gu 1 _ (by decide), gu 1 _ (by decide)]
        rfl
      rw [e]
    · refine ⟨Or.inr (Or.inr (Or.inl ⟨rfl, h1⟩)), rfl, ?_⟩
      refine Eq.trans ?_ (na_e (fun z => absurd z.1 (by decide)) (fun z => absurd z.1 (by decide))).symm
      show (Sum.inl (E.2.1, (if j = 1 then 24 else 8), .inl (sI (i + 1) j)) : va_E) = .inl (E.2.1, (if j = 1 then 24 else 8), .inl (sI i j))
      have : sI (i + 1) j = sI i j := by
        funext x
        by_cases c : j = 3
        · subst c; rfl
        · rw [sI_n c (by omega) ⟨by omega, by omega, by omega⟩, sI_n c (by omega) ⟨by omega, by omega, by omega⟩]
      rw [this]
    · refine ⟨Or.inr (Or.inr (Or.inr (Or.inl ⟨rfl, h1⟩))), rfl, ?_⟩
      show (Sum.inr (5, [.int (sI (i + 1) 20 j), .ref (if cz (sI (i + 1)) j = 0 then C.2.1 else na_ad 0 q g 2 j), .int (sI (i + 1) 21 j)]) : va_E) = _
      refine Eq.trans ?_ (if_neg (fun z => absurd z.1 (by decide))).symm
      by_cases c : j = 0
      · subst c
        refine Eq.trans ?_ (if_pos ⟨rfl, rfl⟩).symm
        have e : cz (sI (i + 1)) 0 = 10 := by rw [sI_cz, if_pos rfl, if_neg (by omega)]
        have e1 : sI (i + 1) 20 0 = nI (i + 1) := by rw [sI_20, if_pos rfl]
        have e2 : sI (i + 1) 21 0 = nI (i + 1) := by rw [sI_21, if_pos rfl]
        rw [e, if_neg (by decide), e1, e2, show na_ad 0 q g 2 0 = q from if_pos ⟨rfl, rfl⟩, show nI i + 1 = nI (i + 1) from nI_1 i]
      · refine Eq.trans ?_ (if_neg (fun z => c z.2)).symm
        show _ = (Sum.inr (5, [.int (sI i 20 j), .ref (if cz (sI i) j = 0 then C.2.1 else g 2 j), .int (sI i 21 j)]) : va_E)
        have e : ∀ i, cz (sI i) j = 0 := fun i => by rw [sI_cz, if_neg c]
        have e1 : ∀ i, sI i 20 j = 0 := fun i => by rw [sI_20, if_neg c]
        have e2 : ∀ i, sI i 21 j = 0 := fun i => by rw [sI_21, if_neg c]
        rw [e, e, if_pos rfl, if_pos rfl, e1, e1, e2, e2]
    · refine ⟨Or.inl ⟨rfl, rfl⟩, rfl, ?_⟩
      refine Eq.trans ?_ (if_pos ⟨rfl, rfl⟩).symm
      show (Sum.inl (E.2.2.2.2, cz (sI (i + 1)) 0, .inr (.inr (.inr (.inr (if 0 = 0 then hq else h 0))))) : va_E) = _
      have e : na_C i (cI i) = 10 := by
        rcases (show i = 0 ∨ i = 1 ∨ i = 2 ∨ i = 3 by omega) with rfl | rfl | rfl | rfl <;> decide
      rw [sI_cz, if_pos rfl, if_neg (show ¬ (i + 1 = 0) by omega), if_pos rfl, e]
theorem x_init {E : en_T} {C : ex_C} {g : kw_A} {h : xh_T} {A : Nat → Prop} {H : Heap} (hh : ∀ j, j < 4 → h 0 j = some (g 1 (3 + j))) (hR : kw E (okC 7 true) g (xen E C g h (sI 4)) A H) : xh C g h (sI 4) ∧ xw E C g h (sI 4) A H := by
  have N : ∀ z, nz (sI 4) z = if z = 0 then 4 else 0 := fun z => sI_nz (by decide)
  refine ⟨fun z hz j hj => ?_, hR.less (fun u j ho => ⟨?_, rfl, rfl⟩)⟩
  · rw [N] at hj
    by_cases c : z = 0
    · subst c
      rw [if_pos rfl] at hj
      exact hh j hj
    · rw [if_neg c] at hj; omega
  · match u, ho with
    | 0, ho => exact Or.inl ⟨rfl, ho⟩
    | 1, ho =>
      have ho : j < 7 + nz (sI 4) 1 := ho
      rw [N, if_neg (by decide)] at ho
      exact Or.inr (Or.inr (Or.inl ⟨rfl, ho⟩))
    | 2, ho =>
      have ho : j < 7 + nz (sI 4) 1 ∧ cz (sI 4) j ≠ 0 := ho
      have h2 := ho.2
      rw [sI_cz] at h2
      by_cases c : j = 0
      · exact Or.inr (Or.inr (Or.inr ⟨rfl, c, rfl⟩))
      · rw [if_neg c] at h2; exact absurd rfl h2
    | 3, ho =>
      have ho : j < nz (sI 4) 1 := ho
      rw [N, if_neg (by decide)] at ho; omega
    | 4, ho =>
      have ho : j < nz (sI 4) 2 := ho
      rw [N, if_neg (by decide)] at ho; omega
    | 5, ho =>
      have ho : j / 16 < nz (sI 4) 1 := ho.1
      rw [N, if_neg (by decide)] at ho; omega
    | 6, ho =>
      have ho : 1 ≤ j ∧ j ≤ 4 := ho
      exact Or.inr (Or.inl ⟨rfl, ho⟩)
    | u + 7, ho => exact ho.elim
