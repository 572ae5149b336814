/-! a list that got an element, in general -/
/-- what makes an entry of S' that of S -/
def xsm (g g' : kw_A) (h h' : xh_T) (S S' : gs_T) (u j : Nat) : Prop := match u with
  | 0 => ∀ k, (k = 0 ∨ k = 6 ∨ k = 9 ∨ k = 10 ∨ k = 11) → S' k 0 = S k 0
  | 1 => S' 20 j = S 20 j ∧ S' 21 j = S 21 j ∧ S' 22 j = S 22 j ∧ g' 2 j = g 2 j
  | 2 => S' 22 j = S 22 j ∧ h' j = h j
  | 3 => ∀ k, k < 13 → S' (30 + k) j = S (30 + k) j
  | 4 => ∀ k, k < 9 → S' (50 + k) j = S (50 + k) j
  | 5 => S' 70 j = S 70 j ∧ S' 71 j = S 71 j
  | 6 => S' j = S j
  | _ => True
theorem xen_same {E : en_T} {C : ex_C} {g g' : kw_A} {h h' : xh_T} {S S' : gs_T} {u j : Nat} (hg : ∀ u j, u ≠ 2 → u ≠ 5 → xok S u j → g' u j = g u j) (ho : xok S u j) (hs : xsm g g' h h' S S' u j) : xen E C g' h' S' u j = xen E C g h S u j := by
  have l7 : ∀ {k}, k < 7 → xok S 1 k := fun {k} hk => show k < 7 + nz S 1 by omega
  match u, ho, hs with
  | 0, ho, hs =>
    have hj : j = 0 := ho
    subst hj
    have hs : ∀ k, (k = 0 ∨ k = 6 ∨ k = 9 ∨ k = 10 ∨ k = 11) → S' k 0 = S k 0 := hs
    have ex : xfs g' S' = xfs g S := by
      simp only [xfs]
      rw [hs 0 (by simp), hs 6 (by simp), hs 9 (by simp), hs 10 (by simp), hs 11 (by simp), hg 6 1 (by decide) (by decide) ⟨by decide, by decide⟩, hg 6 2 (by decide) (by decide) ⟨by decide, by decide⟩, hg 6 3 (by decide) (by decide) ⟨by decide, by decide⟩, hg 6 4 (by decide) (by decide) ⟨by decide, by decide⟩, hg 1 0 (by decide) (by decide) (l7 (by decide)), hg 1 1 (by decide) (by decide) (l7 (by decide)), hg 1 2 (by decide) (by decide) (l7 (by decide))]
    exact congrArg (fun z => (Sum.inr (0, z) : va_E)) ex
  | 1, ho, hs =>
    obtain ⟨a, b, c, d⟩ := (show S' 20 j = S 20 j ∧ S' 21 j = S 21 j ∧ S' 22 j = S 22 j ∧ g' 2 j = g 2 j from hs)
    show (Sum.inr (5, [.int (S' 20 j), .ref (if cz S' j = 0 then C.2.1 else g' 2 j), .int (S' 21 j)]) : va_E) = .inr (5, [.int (S 20 j), .ref (if cz S j = 0 then C.2.1 else g 2 j), .int (S 21 j)])
    unfold cz
    rw [a, b, c, d]
  | 2, ho, hs =>
    obtain ⟨a, b⟩ := (show S' 22 j = S 22 j ∧ h' j = h j from hs)
    show (Sum.inl (E.2.2.2.2, cz S' j, .inr (.inr (.inr (.inr (h' j))))) : va_E) = .inl (E.2.2.2.2, cz S j, .inr (.inr (.inr (.inr (h j)))))
    unfold cz
    rw [a, b]
  | 3, ho, hs =>
    have w : ∀ k, k < 13 → S' (30 + k) j = S (30 + k) j := hs
    have ho : j < nz S 1 := ho
    have ex : ffs g' S' j = ffs g S j := by
      simp only [ffs]
      rw [w 0 (by decide), w 1 (by decide), w 2 (by decide), w 3 (by decide), w 4 (by decide), w 5 (by decide), w 6 (by decide), w 7 (by decide), w 8 (by decide), w 9 (by decide), w 10 (by decide), w 11 (by decide), w 12 (by decide), hg 1 (7 + j) (by decide) (by decide) (show 7 + j < 7 + nz S 1 by omega), hg 0 0 (by decide) (by decide) rfl]
    exact congrArg (fun z => (Sum.inr (2, z) : va_E)) ex
  | 4, ho, hs =>
    have w : ∀ k, k < 9 → S' (50 + k) j = S (50 + k) j := hs
    have ex : cfs g' S' j = cfs g S j := by
      simp only [cfs]
      rw [w 0 (by decide), w 1 (by decide), w 2 (by decide), w 3 (by decide), w 4 (by decide), w 5 (by decide), w 6 (by decide), w 7 (by decide), w 8 (by decide), hg 0 0 (by decide) (by decide) rfl]
    exact congrArg (fun z => (Sum.inr (4, z) : va_E)) ex
  | 5, ho, hs =>
    obtain ⟨a, b⟩ := (show S' 70 j = S 70 j ∧ S' 71 j = S 71 j from hs)
    show (Sum.inr (3, [.int (S' 70 j), .int (S' 71 j)]) : va_E) = .inr (3, [.int (S 70 j), .int (S 71 j)])
    rw [a, b]
  | 6, ho, hs =>
    have hs : S' j = S j := hs
    show (Sum.inl (E.2.1, (if j = 1 then 24 else 8), .inl (S' j)) : va_E) = .inl (E.2.1, (if j = 1 then 24 else 8), .inl (S j))
    rw [hs]
  | u + 7, ho, hs => exact ho.elim
/-- a new key -/
def ku_ok (t i : Nat) (ok : Nat → Nat → Prop) : Nat → Nat → Prop := fun u j => (u = t ∧ j = i) ∨ ok u j
def ku_ad (t i q : Nat) (ad : kw_A) : kw_A := fun u j => if u = t ∧ j = i then q else ad u j
theorem ku_ad_s {t i q : Nat} {ad : kw_A} : ku_ad t i q ad t i = q := if_pos ⟨rfl, rfl⟩
theorem ku_ad_n {t i q u j : Nat} {ad : kw_A} (h : ¬ (u = t ∧ j = i)) : ku_ad t i q ad u j = ad u j := if_neg h
theorem ge_s {t i : Nat} {x : va_E} {en : Nat → Nat → va_E} : ge_en t i x en t i = x := if_pos ⟨rfl, rfl⟩
theorem ge_n {t i u j : Nat} {x : va_E} {en : Nat → Nat → va_E} (h : ¬ (u = t ∧ j = i)) : ge_en t i x en u j = en u j := if_neg h
theorem ge_2 {ok : Nat → Nat → Prop} {t i : Nat} {x y : va_E} {en : Nat → Nat → va_E} : ∀ u j, ok u j → ¬ (u = t ∧ j = i) → ge_en t i x en u j = ge_en t i y en u j := fun _ _ _ h => (if_neg h).trans (if_neg h).symm
theorem ge_ge {t i : Nat} {x y : va_E} {en : Nat → Nat → va_E} : ge_en t i x (ge_en t i y en) = ge_en t i x en := by
  funext u j
  by_cases c : u = t ∧ j = i
  · exact (if_pos c).trans (if_pos c).symm
  · exact (if_neg c).trans ((if_neg c).trans (if_neg c).symm)
theorem le_mono {C : ex_C} {ok ok' : Nat → Nat → Prop} {ad ad' : kw_A} {en en' : Nat → Nat → va_E} {y : Nat} (ho : ∀ u j, ok u j → ok' u j ∧ ad' u j = ad u j ∧ en' u j = en u j) (h : le_P C ok ad en y) : le_P C ok' ad' en' y := by
  rcases h with ⟨t, i, ci, fs, a, b, c, d⟩ | h
  · obtain ⟨x1, x2, x3⟩ := ho t i a
    exact Or.inl ⟨t, i, ci, fs, x1, b.trans x2.symm, x3.trans c, d⟩
  · exact Or.inr h
/-- the elements of Lostroom's lists -/
theorem xel_le {E : en_T} {C : ex_C} {g : kw_A} {h : xh_T} {S : gs_T} (hI : xi_ok S) {z j : Nat} (hz : z < 7 + nz S 1) (hj : j < nz S z) : le_P C (xok S) g (xen E C g h S) (xel C g S z j) := by
  unfold xel
  by_cases c0 : z = 0
  · rw [if_pos c0]
    subst c0
    rw [hI.1.2] at hj
    exact Or.inl ⟨1, 3 + j, 5, _, show 3 + j < 7 + nz S 1 by omega, rfl, rfl, by simp⟩
  rw [if_neg c0]
  by_cases c1 : z = 1
  · rw [if_pos c1]
    subst c1
    exact Or.inl ⟨3, j, 2, _, hj, rfl, rfl, by simp⟩
  rw [if_neg c1]
  by_cases c2 : z = 2
  · rw [if_pos c2]
    subst c2
    exact Or.inl ⟨4, j, 4, _, hj, rfl, rfl, by simp⟩
  rw [if_neg c2]
  by_cases c3 : z < 7
  · rw [if_pos c3]
    refine Or.inr ⟨_, ?_, rfl⟩
    have h6 := hI.2.2.2.2.2.2.2 (z - 3) j (by omega) (by rw [show 3 + (z - 3) = z by omega]; exact hj)
    exact (xr_w h6).1
  · rw [if_neg c3]
    have h1 := (hI.2.2.2.2.1 (z - 7) (by omega)).1.2.1
    rw [show 7 + (z - 7) = z by omega] at h1
    refine Or.inl ⟨5, 16 * (z - 7) + j, 3, _, ?_, rfl, rfl, by simp⟩
    show (16 * (z - 7) + j) / 16 < nz S 1 ∧ (16 * (z - 7) + j) % 16 < nz S (7 + (16 * (z - 7) + j) / 16)
    rw [show (16 * (z - 7) + j) / 16 = z - 7 by omega, show (16 * (z - 7) + j) % 16 = j by omega, show 7 + (z - 7) = z by omega]
    exact ⟨by omega, hj⟩
theorem xok_9 {S : gs_T} : ∀ j, ¬ xok S 9 j := fun _ h => h
/-- what add asks of a list z, in a world that holds S's and more -/
theorem xg_ad {E : en_T} {C : ex_C} {g : kw_A} {h : xh_T} {S : gs_T} {ok : Nat → Nat → Prop} {ad : kw_A} {en : Nat → Nat → va_E} {z v : Nat} (hI : xi_ok S) (hh : xh C g h S) (hz : z < 7 + nz S 1) (h9 : ∀ j, ¬ ok 9 j) (ho : ∀ u j, xok S u j → ok u j ∧ ad u j = g u j ∧ en u j = xen E C g h S u j) (hv : le_P C ok ad en v) :
    ad_P E C ok ad en z (S 20 z) (nz S z) (cz S z) (h z) v := by
  obtain ⟨a1, a2, a3, a4, a5⟩ := xi_zz hI hz
  refine ⟨h9, (ho 1 z hz).1, ?_, fun hc => ⟨(ho 2 z ⟨hz, hc⟩).1, (ho 2 z ⟨hz, hc⟩).2.2⟩, a3, by omega, fun j hj y hy => ?_, hv⟩
  · refine (ho 1 z hz).2.2.trans ?_
    show (Sum.inr (5, [.int (S 20 z), .ref (if cz S z = 0 then C.2.1 else g 2 z), .int (S 21 z)]) : va_E) = _
    by_cases hc : cz S z = 0
    · rw [if_pos hc, if_pos hc, a1]
    · rw [if_neg hc, if_neg hc, a1, (ho 2 z ⟨hz, hc⟩).2.1]
  · rw [hh z hz j hj] at hy
    cases hy
    exact le_mono ho (xel_le hI hz hj)
theorem na_S6 {n cap : Nat} (h : n < 6) : na_S n cap ≤ 10 := by
  unfold na_S
  split
  · have : ∀ c, c < 6 → na_m c ≤ 10 := by decide +kernel
    exact this cap (by omega)
  · exact Nat.zero_le _
theorem na_S13 {n cap : Nat} (h : n < 13) : na_S n cap ≤ 18 := by
  unfold na_S
  split
  · have : ∀ c, c < 13 → na_m c ≤ 18 := by decide +kernel
    exact this cap (by omega)
  · exact Nat.zero_le _
theorem na_S30 {n cap : Nat} (h : n < 30) : na_S n cap ≤ 43 := by
  unfold na_S
  split
  · have : ∀ c, c < 30 → na_m c ≤ 43 := by decide +kernel
    exact this cap (by omega)
  · exact Nat.zero_le _
/-- the world of the new store -/
theorem x_added {E : en_T} {C : ex_C} {S S' : gs_T} {h : xh_T} {ok : Nat → Nat → Prop} {ad : kw_A} {en : Nat → Nat → va_E} {A : Nat → Prop} {H : Heap} {z q : Nat} {hq : Nat → Option Nat} (hk : kw E (na_ok z ok) (na_ad z q ad) (na_en z (.inr (5, [.int (S 20 z + 1), .ref q, .int (nI (nz S z + 1))])) (na_x E (na_C (nz S z) (cz S z)) hq) en) A H)
    (e20 : S' 20 z = S 20 z + 1) (e21 : S' 21 z = nI (nz S z + 1)) (e22 : cz S' z = na_C (nz S z) (cz S z)) (h0 : na_C (nz S z) (cz S z) ≠ 0) (h1 : ok 1 z)
    (hold : ∀ u j, xok S' u j → ¬ (u = 1 ∧ j = z) → ¬ (u = 2 ∧ j = z) → ok u j ∧ xen E C (na_ad z q ad) (fun u => if u = z then hq else h u) S' u j = en u j) : xw E C (na_ad z q ad) (fun u => if u = z then hq else h u) S' A H := by
  refine hk.less (fun u j ho => ?_)
  by_cases c1 : u = 1 ∧ j = z
  · obtain ⟨rfl, rfl⟩ := c1
    refine ⟨Or.inr h1, rfl, ?_⟩
    have L1 : xen E C (na_ad j q ad) (fun u => if u = j then hq else h u) S' 1 j = .inr (5, [.int (S' 20 j), .ref (if cz S' j = 0 then C.2.1 else na_ad j q ad 2 j), .int (S' 21 j)]) := rfl
    rw [L1]
    refine Eq.trans ?_ ((if_neg (fun z => absurd z.1 (by decide))).trans (if_pos ⟨rfl, rfl⟩)).symm
    rw [if_neg (by rw [e22]; exact h0), e20, e21, show na_ad j q ad 2 j = q from if_pos ⟨rfl, rfl⟩]
  · by_cases c2 : u = 2 ∧ j = z
    · obtain ⟨rfl, rfl⟩ := c2
      refine ⟨Or.inl ⟨rfl, rfl⟩, rfl, ?_⟩
      show (Sum.inl (E.2.2.2.2, cz S' j, .inr (.inr (.inr (.inr (if j = j then hq else h j))))) : va_E) = (if _ then _ else _)
      rw [if_pos rfl, if_pos ⟨rfl, rfl⟩, e22]
    · obtain ⟨a, b⟩ := hold u j ho c1 c2
      exact ⟨Or.inr a, rfl, b.trans ((if_neg c2).trans (if_neg c1)).symm⟩
/-- a new key beside Lostroom's world -/
theorem x_new {E : en_T} {C : ex_C} {g : kw_A} {h : xh_T} {S : gs_T} {A : Nat → Prop} {H : Heap} {t i q : Nat} {x : va_E} (hI : xi_ok S) (hh : xh C g h S) (hno : ¬ xok S t i) (h2 : t ≠ 2) (hR : kw E (fun u j => (u = t ∧ j = i) ∨ xok S u j) (fun u j => if u = t ∧ j = i then q else g u j) (fun u j => if u = t ∧ j = i then x else xen E C g h S u j) A H) :
    ∃ g' : kw_A, g' t i = q ∧ (∀ u j, xok S u j → g' u j = g u j) ∧ (∀ u j, u ≠ t → g' u j = g u j) ∧ xh C g' h S ∧ kw E (ku_ok t i (xok S)) g' (ge_en t i x (xen E C g' h S)) A H := by
  have hg : ∀ u j, xok S u j → ku_ad t i q g u j = g u j := fun u j ho => ku_ad_n (fun z => hno (by obtain ⟨rfl, rfl⟩ := z; exact ho))
  have g2 : ∀ j, ku_ad t i q g 2 j = g 2 j := fun j => ku_ad_n (fun z => h2 z.1.symm)
  have hs : ∀ u j, xok S u j → xen E C (ku_ad t i q g) h S u j = xen E C g h S u j := fun u j ho => xen_same (fun u j _ _ ho => hg u j ho) ho (by
    match u, ho with
    | 0, _ => exact fun _ _ => rfl
    | 1, _ => exact ⟨rfl, rfl, rfl, g2 j⟩
    | 2, _ => exact ⟨rfl, rfl⟩
    | 3, _ => exact fun _ _ => rfl
    | 4, _ => exact fun _ _ => rfl
    | 5, _ => exact ⟨rfl, rfl⟩
    | 6, _ => exact rfl
    | u + 7, _ => trivial)
  refine ⟨ku_ad t i q g, ku_ad_s, hg, fun u j hne => ku_ad_n (fun z => hne z.1), ?_, ?_⟩
  · intro z hz j hj
    rw [hh z hz j hj]
    have le := xel_le (E := E) (C := C) (g := g) (h := h) hI hz hj
    congr 1
    unfold xel
    by_cases c0 : z = 0
    · subst c0
      rw [if_pos rfl, if_pos rfl]
      have := hI.1.2
      exact (hg 1 (3 + j) (show 3 + j < 7 + nz S 1 by omega)).symm
    rw [if_neg c0, if_neg c0]
    by_cases c1 : z = 1
    · subst c1
      rw [if_pos rfl, if_pos rfl]
      exact (hg 3 j hj).symm
    rw [if_neg c1, if_neg c1]
    by_cases c2 : z = 2
    · subst c2
      rw [if_pos rfl, if_pos rfl]
      exact (hg 4 j hj).symm
    rw [if_neg c2, if_neg c2]
    by_cases c3 : z < 7
    · rw [if_pos c3, if_pos c3]
    · rw [if_neg c3, if_neg c3]
      have h1 := (hI.2.2.2.2.1 (z - 7) (by omega)).1.2.1
      rw [show 7 + (z - 7) = z by omega] at h1
      refine (hg 5 (16 * (z - 7) + j) ?_).symm
      show (16 * (z - 7) + j) / 16 < nz S 1 ∧ (16 * (z - 7) + j) % 16 < nz S (7 + (16 * (z - 7) + j) / 16)
      rw [show (16 * (z - 7) + j) / 16 = z - 7 by omega, show (16 * (z - 7) + j) % 16 = j by omega, show 7 + (z - 7) = z by omega]
      exact ⟨by omega, hj⟩
  · refine hR.less (fun u j ho => ⟨ho, rfl, ?_⟩)
    by_cases c : u = t ∧ j = i
    · exact (if_pos c).trans (if_pos c).symm
    · exact (if_neg c).trans ((hs u j (ho.resolve_left c)).trans (if_neg c).symm)
theorem kw.re {E : en_T} {ok ok' : Nat → Nat → Prop} {ad ad' : kw_A} {en en' : Nat → Nat → va_E} {A : Nat → Prop} {H : Heap} (σ : Nat → Nat → Nat) (h : kw E ok ad en A H) (ho : ∀ t i, ok' t i → ok t (σ t i) ∧ ad' t i = ad t (σ t i) ∧ en' t i = en t (σ t i)) (hs : ∀ t i j, ok' t i → ok' t j → σ t i = σ t j → i = j) : kw E ok' ad' en' A H := by
  obtain ⟨L, f, h1, h2, h3, h4⟩ := h
  refine ⟨L, f, h1, h2, fun t i hi => ?_, fun t i u j hi hj e => ?_⟩
  · obtain ⟨a1, a2, a3⟩ := ho t i hi
    rw [a2, a3]
    exact h3 t (σ t i) a1
  · obtain ⟨a1, a2, a3⟩ := ho t i hi
    obtain ⟨b1, b2, b3⟩ := ho u j hj
    rw [a2, b2] at e
    obtain ⟨rfl, e2⟩ := h4 t (σ t i) u (σ u j) a1 b1 e
    exact ⟨rfl, hs t i j hi hj e2⟩
section RN
variable {p : Program} {l : Launch} {e : Env} {R : Room} {s : State} {m : MethodId} {args : Array Value} {below : List Frame} {meth : Method} {c : Code} {H : Heap} {locs : List Loc} {cells slots : Nat} {Q : State → Prop}
variable {cc bytes : ByteArray} {pc nL maxL index n mc ms : Nat} {ls : Array Slot} {rest st0 As : List Value} {E : en_T} {C : ex_C} {A A0 A1 : Nat → Prop} {y : MethodName} {rm : Room} {ret : Option FieldType} {P : Prop} {own host : String} {X : Heap → Prop} {v : Option Value} {B : Heap → Prop} {b : Nat}
theorem cq_IN (hK : ex_K E C s) (hZ : ex_H C A s s.heap) (hA : ∀ a, s.heap.size ≤ a → A a) (hAA : ∀ a, A0 a → A a) (hS : va_S A0 s.heap H locs) (hX : X H) (hP : P)
    (hM : Met l y (ws_ y bytes maxL none) rm (cpc E C A H.size (.ref b :: As) X P) (cq_Q v B A1) mc ms A1) (hA1 : ∀ a, A1 a → A0 a)
    (Sx : CallFix p m c cc nL s args lw_all own) (cw : va_CN R s args own index y host bytes maxL none (ws_ y bytes maxL none) rm mc ms n ∧ y.name = "<init>" ∧ (Cond.instanceMethod y).before args s = true)
    (hn : As.length = n) (hsize : ls.size = nL) (hst : st0 = As.reverse ++ .ref b :: rest) (hroom : (rest.map fun v => v.category).sum ≤ 8) (hdg : decode cc pc = .ok (.invokespecial index, 3)) (hf : cells + mc ≤ R.cells ∧ slots + ms ≤ R.slots)
    (kk : ∀ (H1 : Heap) (locs1 : List Loc), B H1 → H.size ≤ H1.size → (∀ q : Nat, q < H.size → ¬ A1 q → H1[q]? = H[q]?) → va_S A0 s.heap H1 locs1 → W p l e R s m args below meth c H1 locs1 (cells + mc) (slots + ms) Q (F0 m (pc + 3) ls (v.toList ++ rest))) : W p l e R s m args below meth c H locs cells slots Q (F0 m pc ls st0) :=
  cq_call (va_runIN (As := As) (rest := rest) Sx hM cw ⟨cpc_blind, cpc_now hK hZ hA hAA hS hX hP⟩ rfl hn hsize hst (lv_room hroom) hdg hf) hS (fun q _ h => hA1 q h) hA1 kk
end RN
theorem ku_9 {ok : Nat → Nat → Prop} {t i : Nat} (h : ∀ j, ¬ ok 9 j) (ht : t ≠ 9) : ∀ j, ¬ ku_ok t i ok 9 j := fun j z => z.elim (fun w => ht w.1.symm) (h j)
theorem x_hno {S : gs_T} {i : Nat} (hI : xi_ok S) (hi : i < nz S 1) : ¬ xok S 5 (16 * i + nz S (7 + i)) := by
  intro z
  have h1 : nz S (7 + i) ≤ 12 := (hI.2.2.2.2.1 i hi).1.2.1
  have z2 : (16 * i + nz S (7 + i)) % 16 < nz S (7 + (16 * i + nz S (7 + i)) / 16) := z.2
  rw [show (16 * i + nz S (7 + i)) / 16 = i by omega] at z2
  omega
theorem xq_n6 {S : gs_T} {t : Nat} (hI : xi_ok S) (ht : t < 4) (h : ¬ 6 ≤ S 21 (3 + t)) : nz S (3 + t) < 6 := by
  obtain ⟨z1, z2, -⟩ := hI.2.2.2.1 t ht
  rw [z1] at h
  rcases Nat.lt_or_ge (nz S (3 + t)) 6 with q | q
  · exact q
  · exact absurd (nI_le (a := 6) q (by omega)) h
/-! an iterator beside a call that does not know of it -/
theorem pl_nd {A : Nat → Prop} {L : List Nat} {f : Nat → va_E} (h : va_D A (va_pl L f)) : L.Nodup := by
  rw [List.Nodup, List.pairwise_iff_getElem]
  intro i j hi hj hij e
  have := h.1 i j (L[i], f L[i]) (L[j], f L[j]) (by simp [va_pl, hi]) (by simp [va_pl, hj]) e
  omega
theorem pl_dn {A : Nat → Prop} {L : List Nat} {f : Nat → va_E} (h : L.Nodup) (hA : ∀ a ∈ L, A a) : va_D A (va_pl L f) := by
  rw [List.Nodup, List.pairwise_iff_getElem] at h
  refine ⟨fun i j p q hi hj e => ?_, fun k q hk => ?_⟩
  · unfold va_pl at hi hj
    rw [List.getElem?_map] at hi hj
    obtain ⟨x, hx, rfl⟩ := Option.map_eq_some_iff.mp hi
    obtain ⟨y, hy, rfl⟩ := Option.map_eq_some_iff.mp hj
    obtain ⟨h1, h2⟩ := List.getElem?_eq_some_iff.mp hx
    obtain ⟨h3, h4⟩ := List.getElem?_eq_some_iff.mp hy
    have e : x = y := e
    rcases Nat.lt_trichotomy i j with c | c | c
    · exact absurd (h2.trans (e.trans h4.symm)) (h i j h1 h3 c)
    · exact c
    · exact absurd (h4.trans (e.symm.trans h2.symm)) (h j i h3 h1 c)
  · unfold va_pl at hk
    rw [List.getElem?_map] at hk
    obtain ⟨x, hx, rfl⟩ := Option.map_eq_some_iff.mp hk
    exact hA x (List.mem_of_getElem? hx)
theorem pl_mem {L : List Nat} {f : Nat → va_E} {k : Nat} {x : Nat × va_E} (h : (va_pl L f)[k]? = some x) : x.1 ∈ L ∧ x.2 = f x.1 := by
  unfold va_pl at h
  rw [List.getElem?_map] at h
  obtain ⟨y, hy, rfl⟩ := Option.map_eq_some_iff.mp h
  exact ⟨List.mem_of_getElem? hy, rfl⟩
theorem it_x {E : en_T} {ok : Nat → Nat → Prop} {ad : kw_A} {en : Nat → Nat → va_E} {fs : List Value} {q : Nat} {A : Nat → Prop} {H : Heap} (h8 : ∀ j, ¬ ok 8 j) (h : kw E (it_ok ok) (it_ad q ad) (it_en fs en) A H) : kw E ok ad en (fun a => A a ∧ a ≠ q) H := by
  obtain ⟨L, f, h1, h2, h3, h4⟩ := h
  have w : ∀ u j, ok u j → u ≠ 8 ∧ it_ok ok u j ∧ it_ad q ad u j = ad u j ∧ it_en fs en u j = en u j := fun u j ho => by
    have e : u ≠ 8 := fun z => h8 j (z ▸ ho)
    have e8 := it_n8 e
    refine ⟨e, ?_, ?_, ?_⟩
    · show bif Nat.beq u 8 then _ else _
      rw [e8]; exact ho
    · show (bif Nat.beq u 8 then _ else _) = _
      rw [e8]; rfl
    · show (bif Nat.beq u 8 then _ else _) = _
      rw [e8]; rfl
  have hn := pl_nd h2
  refine ⟨L.filter (fun a => decide (a ≠ q)), f, ?_, pl_dn (List.Pairwise.filter _ hn) ?_, ?_, ?_⟩
  · intro k x hx
    obtain ⟨a, b⟩ := pl_mem hx
    obtain ⟨q0, hq⟩ := gl_at (f := f) (List.mem_filter.mp a).1
    have := h1 q0 _ hq
    rw [← b] at this
    exact this
  · intro a ha
    obtain ⟨b, c⟩ := List.mem_filter.mp ha
    obtain ⟨q0, hq⟩ := gl_at (f := f) b
    exact ⟨h2.2 q0 _ hq, of_decide_eq_true c⟩
  · intro u j ho
    obtain ⟨a, b, c, d⟩ := w u j ho
    obtain ⟨x, y⟩ := h3 u j b
    rw [c] at x y
    rw [d] at y
    refine ⟨List.mem_filter.mpr ⟨x, decide_eq_true (fun z => ?_)⟩, y⟩
    exact a (h4 u j 8 0 b rfl (by rw [c, z]; rfl)).1
  · intro u j v k ho hv e
    obtain ⟨a, b, c, d⟩ := w u j ho
    obtain ⟨a', b', c', d'⟩ := w v k hv
    exact h4 u j v k b b' (by rw [c, c', e])
theorem it_join {E : en_T} {ok ok' : Nat → Nat → Prop} {ad ad' : kw_A} {en en' : Nat → Nat → va_E} {fs : List Value} {q : Nat} {A : Nat → Prop} {H H1 : Heap} (h : kw E (it_ok ok) (it_ad q ad) (it_en fs en) A H) (hn : kw E ok' ad' en' (fun a => A a ∧ a ≠ q) H1) (hk : ∀ x : Nat, x < H.size → ¬ (A x ∧ x ≠ q) → H1[x]? = H[x]?) : kw E (it_ok ok') (it_ad q ad') (it_en fs en') A H1 := by
  obtain ⟨a1, a2, a3⟩ := h.at (t := 8) (i := 0) rfl
  have a1 : va_at E.1 vcl (q, .inr (6, fs)) H := a1
  have a2 : A q := a2
  have a3 : q < H.size := a3
  obtain ⟨L, f, h1, h2, h3, h4⟩ := hn
  have hq : q ∉ L := fun z => by
    obtain ⟨q0, hq⟩ := gl_at (f := f) z
    exact (h2.2 q0 _ hq).2 rfl
  have e1 : va_at E.1 vcl (q, .inr (6, fs)) H1 := by
    have : va_P E.1 vcl [(q, .inr (6, fs))] H1 := va_P.kept (H := H) (fun k x hx => by
      have hz : k < 1 := (List.getElem?_eq_some_iff.mp hx).1
      rw [show k = 0 by omega] at hx
      cases hx
      exact a1) (fun k x hx => by
      have hz : k < 1 := (List.getElem?_eq_some_iff.mp hx).1
      rw [show k = 0 by omega] at hx
      cases hx
      exact hk q a3 (fun z => z.2 rfl))
    exact this 0 _ rfl
  have g1 : va_P E.1 vcl (va_pl L f ++ [(q, .inr (6, fs))]) H1 := h1.app (fun k x hx => by
    have hz : k < 1 := (List.getElem?_eq_some_iff.mp hx).1
    rw [show k = 0 by omega] at hx
    cases hx
    exact e1)
  rw [va_pl_push hq] at g1
  obtain ⟨b1, b2⟩ := kw_push (t := 8) (i := 0) (a := q) (x := .inr (6, fs)) (ok' := fun u j => (u = 8 ∧ j = 0) ∨ ok' u j) (ad' := fun u j => if u = 8 ∧ j = 0 then q else ad' u j) (en' := fun u j => if u = 8 ∧ j = 0 then .inr (6, fs) else en' u j) hq h3 h4 (by simp) (by simp) (fun u j ho hc => ⟨ho.resolve_left hc, if_neg hc, if_neg hc⟩)
  refine it_mk ⟨_, _, g1, pl_dn ?_ ?_, b1, b2⟩
  · refine List.nodup_append.mpr ⟨pl_nd h2, by simp, fun a ha b hb e => ?_⟩
    rw [List.mem_singleton] at hb
    exact hq (by rw [← hb, ← e]; exact ha)
  · intro a ha
    rcases List.mem_append.mp ha with c | c
    · obtain ⟨q0, hq⟩ := gl_at (f := f) c
      exact (h2.2 q0 _ hq).1
    · rw [List.mem_singleton] at c
      rw [c]; exact a2
theorem it_new {E : en_T} {ok : Nat → Nat → Prop} {ad : kw_A} {en : Nat → Nat → va_E} {fs : List Value} {q : Nat} {A : Nat → Prop} {H H0 : Heap} (hA : ∀ a, H0.size ≤ a → A a) (hz : H0.size ≤ H.size) (h : kw E (it_ok ok) (it_ad q ad) (it_en fs en) A H) : ∀ a, H.size ≤ a → A a ∧ a ≠ q := fun a ha => by
  have a3 : q < H.size := (h.at (t := 8) (i := 0) rfl).2.2
  exact ⟨hA a (Nat.le_trans hz ha), by omega⟩
