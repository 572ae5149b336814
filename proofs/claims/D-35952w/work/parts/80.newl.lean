/-! new finds and claims -/
theorem ge_comm {t t' i i' : Nat} {x y : va_E} {en : Nat → Nat → va_E} (h : t ≠ t') : ge_en t i x (ge_en t' i' y en) = ge_en t' i' y (ge_en t i x en) := by
  funext u j
  by_cases c : u = t ∧ j = i
  · by_cases d : u = t' ∧ j = i'
    · exact absurd (c.1.symm.trans d.1) h
    · exact (if_pos c).trans (((if_neg d).trans (if_pos c)).symm)
  · by_cases d : u = t' ∧ j = i'
    · exact ((if_neg c).trans (if_pos d)).trans (if_pos d).symm
    · exact ((if_neg c).trans (if_neg d)).trans ((if_neg d).trans (if_neg c)).symm
theorem la_ge {z : Nat} {x : va_E} {en : Nat → Nat → va_E} : la_en z x en = ge_en 1 z x en := rfl
/-- a new key; what lies there is a function of the addresses -/
theorem k_new {E : en_T} {ok : Nat → Nat → Prop} {g : kw_A} {enF : kw_A → Nat → Nat → va_E} {A : Nat → Prop} {H : Heap} {t i q : Nat} {x : va_E} (hF : ∀ g', (∀ u j, ¬ (u = t ∧ j = i) → g' u j = g u j) → ∀ u j, ok u j → enF g' u j = enF g u j) (hR : kw E (fun u j => (u = t ∧ j = i) ∨ ok u j) (fun u j => if u = t ∧ j = i then q else g u j) (fun u j => if u = t ∧ j = i then x else enF g u j) A H) :
    ∃ g' : kw_A, g' t i = q ∧ (∀ u j, ¬ (u = t ∧ j = i) → g' u j = g u j) ∧ kw E (ku_ok t i ok) g' (ge_en t i x (enF g')) A H := by
  refine ⟨ku_ad t i q g, ku_ad_s, fun u j hne => ku_ad_n hne, hR.less (fun u j ho => ⟨ho, rfl, ?_⟩)⟩
  by_cases c : u = t ∧ j = i
  · exact (if_pos c).trans (if_pos c).symm
  · exact (if_neg c).trans ((hF _ (fun u j hne => ku_ad_n hne) u j (ho.resolve_left c)).trans (if_neg c).symm)
theorem xen_al {E : en_T} {C : ex_C} {g g' : kw_A} {h : xh_T} {S : gs_T} {t i : Nat} (hno : ¬ xok S t i) (h2 : t ≠ 2) (hg : ∀ u j, ¬ (u = t ∧ j = i) → g' u j = g u j) (u j : Nat) (ho : xok S u j) : xen E C g' h S u j = xen E C g h S u j := by
  refine xen_same (fun u j _ _ ho => hg u j (fun z => hno (by obtain ⟨rfl, rfl⟩ := z; exact ho))) ho ?_
  match u, ho with
  | 0, _ => exact fun _ _ => rfl
  | 1, _ => exact ⟨rfl, rfl, rfl, hg 2 j (fun z => h2 z.1.symm)⟩
  | 2, _ => exact ⟨rfl, rfl⟩
  | 3, _ => exact fun _ _ => rfl
  | 4, _ => exact fun _ _ => rfl
  | 5, _ => exact ⟨rfl, rfl⟩
  | 6, _ => exact rfl
  | u + 7, _ => trivial
/-- the store with a new find, that no list holds yet -/
def xb_S (S : gs_T) (n : Nat) (f : Nat → Int32) (d r : Int32) : gs_T := fun k j => if (30 ≤ k ∧ k < 43) ∧ j = n then f (k - 30) else if (k = 20 ∨ k = 21) ∧ j = 7 + n then 1 else if k = 22 ∧ j = 7 + n then 10 else if k = 70 ∧ j = 16 * n then d else if k = 71 ∧ j = 16 * n then r else S k j
theorem xb_o {S : gs_T} {n : Nat} {f : Nat → Int32} {d r : Int32} {k j : Nat} (h1 : ¬ ((30 ≤ k ∧ k < 43) ∧ j = n)) (h2 : ¬ ((k = 20 ∨ k = 21 ∨ k = 22) ∧ j = 7 + n)) (h3 : ¬ ((k = 70 ∨ k = 71) ∧ j = 16 * n)) : xb_S S n f d r k j = S k j := by
  unfold xb_S
  rw [if_neg h1, if_neg (fun z => h2 ⟨by omega, z.2⟩), if_neg (fun z => h2 ⟨by omega, z.2⟩), if_neg (fun z => h3 ⟨by omega, z.2⟩), if_neg (fun z => h3 ⟨by omega, z.2⟩)]
theorem xb_r {S : gs_T} {n : Nat} {f : Nat → Int32} {d r : Int32} {k : Nat} (h1 : ¬ (30 ≤ k ∧ k < 43)) (h2 : ¬ (k = 20 ∨ k = 21 ∨ k = 22)) (h3 : ¬ (k = 70 ∨ k = 71)) : xb_S S n f d r k = S k := funext (fun _ => xb_o (fun z => h1 z.1) (fun z => h2 z.1) (fun z => h3 z.1))
theorem xb_f {S : gs_T} {n : Nat} {f : Nat → Int32} {d r : Int32} {k : Nat} (h : k < 13) : xb_S S n f d r (30 + k) n = f k := by
  unfold xb_S
  rw [if_pos ⟨by omega, rfl⟩, show 30 + k - 30 = k by omega]
theorem xb_20 {S : gs_T} {n : Nat} {f : Nat → Int32} {d r : Int32} : xb_S S n f d r 20 (7 + n) = 1 ∧ xb_S S n f d r 21 (7 + n) = 1 ∧ xb_S S n f d r 22 (7 + n) = 10 ∧ xb_S S n f d r 70 (16 * n) = d ∧ xb_S S n f d r 71 (16 * n) = r := by
  unfold xb_S
  refine ⟨?_, ?_, ?_, ?_, ?_⟩
  · rw [if_neg (fun z => by omega), if_pos ⟨by omega, rfl⟩]
  · rw [if_neg (fun z => by omega), if_pos ⟨by omega, rfl⟩]
  · rw [if_neg (fun z => by omega), if_neg (fun z => by omega), if_pos ⟨rfl, rfl⟩]
  · rw [if_neg (fun z => by omega), if_neg (fun z => by omega), if_neg (fun z => by omega), if_pos ⟨rfl, rfl⟩]
  · rw [if_neg (fun z => by omega), if_neg (fun z => by omega), if_neg (fun z => by omega), if_neg (fun z => by omega), if_pos ⟨rfl, rfl⟩]
theorem xb_nz {S : gs_T} {n : Nat} {f : Nat → Int32} {d r : Int32} (z : Nat) : nz (xb_S S n f d r) z = if z = 7 + n then 1 else nz S z := by
  unfold nz
  by_cases e : z = 7 + n
  · rw [if_pos e, e, xb_20.2.1]; rfl
  · rw [if_neg e, xb_o (fun z => by omega) (fun z => e z.2) (fun z => by omega)]
theorem xb_cz {S : gs_T} {n : Nat} {f : Nat → Int32} {d r : Int32} (z : Nat) : cz (xb_S S n f d r) z = if z = 7 + n then 10 else cz S z := by
  unfold cz
  by_cases e : z = 7 + n
  · rw [if_pos e, e, xb_20.2.2.1]; rfl
  · rw [if_neg e, xb_o (fun z => by omega) (fun z => e z.2) (fun z => by omega)]
def xokF (n : Nat) (S : gs_T) : Nat → Nat → Prop := fun u j => xok S u j ∨ (u = 3 ∧ j = n) ∨ (u = 1 ∧ j = 7 + n) ∨ (u = 2 ∧ j = 7 + n) ∨ (u = 5 ∧ j = 16 * n)
/-- Lostroom's keys are as they were -/
theorem xb_ok {S : gs_T} {f : Nat → Int32} {d r : Int32} : xok (xb_S S (nz S 1) f d r) = xok S := by
  funext u j
  have n1 : nz (xb_S S (nz S 1) f d r) 1 = nz S 1 := by rw [xb_nz, if_neg (by omega)]
  have n2 : nz (xb_S S (nz S 1) f d r) 2 = nz S 2 := by rw [xb_nz, if_neg (by omega)]
  match u with
  | 0 => show (j = 0) = (j = 0); rfl
  | 1 => show (j < 7 + _) = (j < 7 + _); rw [n1]
  | 2 =>
    show (j < 7 + _ ∧ cz _ j ≠ 0) = (j < 7 + _ ∧ cz S j ≠ 0)
    rw [n1, xb_cz]
    by_cases e : j = 7 + nz S 1
    · exact propext ⟨fun z => by omega, fun z => by omega⟩
    · rw [if_neg e]
  | 3 => show (j < _) = (j < _); rw [n1]
  | 4 => show (j < _) = (j < _); rw [n2]
  | 5 =>
    show (j / 16 < _ ∧ j % 16 < nz _ (7 + j / 16)) = (j / 16 < _ ∧ j % 16 < nz S (7 + j / 16))
    rw [n1, xb_nz]
    by_cases e : 7 + j / 16 = 7 + nz S 1
    · exact propext ⟨fun z => by omega, fun z => by omega⟩
    · rw [if_neg e]
  | 6 => show (1 ≤ j ∧ j ≤ 4) = (1 ≤ j ∧ j ≤ 4); rfl
  | u + 7 => show False = False; rfl
def xb_F (g : kw_A) (n : Nat) (f : Nat → Int32) : List Value := [.int (f 0), .int (f 1), .int (f 2), .int (f 3), .int (f 4), .int (f 5), .int (f 6), .int (f 7), .int (f 8), .int (f 9), .int (f 10), .int (f 11), .int (f 12), .ref (g 1 (7 + n)), .ref (g 0 0)]
/-- the end of Find's constructor -/
theorem x_born {E : en_T} {C : ex_C} {g : kw_A} {h : xh_T} {S : gs_T} {A : Nat → Prop} {H : Heap} {f : Nat → Int32} {d r : Int32} {hd : Nat → Option Nat} {L : va_E} (hI : xi_ok S) (hh : xh C g h S)
    (hW : ad_W E (ku_ok 5 (16 * nz S 1) (ku_ok 1 (7 + nz S 1) (ku_ok 3 (nz S 1) (xok S)))) g (ge_en 3 (nz S 1) (.inr (2, xb_F g (nz S 1) f)) (ge_en 5 (16 * nz S 1) (.inr (3, [.int d, .int r])) (ge_en 1 (7 + nz S 1) L (xen E C g h S)))) A (7 + nz S 1) (0 + 1) 0 0 hd (g 5 (16 * nz S 1)) H) :
    ∃ (g' : kw_A) (h' : xh_T), (∀ u j, u ≠ 2 → g' u j = g u j) ∧ xh C g' h' (xb_S S (nz S 1) f d r) ∧ h' (7 + nz S 1) 0 = some (g' 5 (16 * nz S 1)) ∧ kw E (xokF (nz S 1) (xb_S S (nz S 1) f d r)) g' (xen E C g' h' (xb_S S (nz S 1) f d r)) A H := by
  obtain ⟨q, hq, -, b2, hk⟩ := hW
  generalize hn : nz S 1 = n at hk b2 ⊢
  have okS : xok (xb_S S n f d r) = xok S := by rw [← hn]; exact xb_ok
  generalize hS' : xb_S S n f d r = S' at okS ⊢
  have gu : ∀ u j, u ≠ 2 → na_ad (7 + n) q g u j = g u j := fun u j hne => if_neg (fun z => hne z.1)
  have N : ∀ z, nz S' z = if z = 7 + n then 1 else nz S z := fun z => by rw [← hS']; exact xb_nz z
  have K : ∀ z, cz S' z = if z = 7 + n then 10 else cz S z := fun z => by rw [← hS']; exact xb_cz z
  have O : ∀ k j, ¬ ((30 ≤ k ∧ k < 43) ∧ j = n) → ¬ ((k = 20 ∨ k = 21 ∨ k = 22) ∧ j = 7 + n) → ¬ ((k = 70 ∨ k = 71) ∧ j = 16 * n) → S' k j = S k j := fun k j a b c => by rw [← hS']; exact xb_o a b c
  have F : ∀ k, k < 13 → S' (30 + k) n = f k := fun k hk => by rw [← hS']; exact xb_f hk
  have T20 : S' 20 (7 + n) = 1 ∧ S' 21 (7 + n) = 1 ∧ S' 22 (7 + n) = 10 ∧ S' 70 (16 * n) = d ∧ S' 71 (16 * n) = r := by rw [← hS']; exact xb_20
  have n1 : nz S' 1 = n := by rw [N, if_neg (by omega)]; exact hn
  refine ⟨na_ad (7 + n) q g, fun u => if u = 7 + n then hq else h u, gu, ?_, ?_, ?_⟩
  · intro z hz j hj
    rw [n1] at hz
    have e : z ≠ 7 + n := by omega
    show (if z = 7 + n then hq else h z) j = _
    rw [if_neg e]
    rw [N, if_neg e] at hj
    rw [hh z (by rw [hn]; exact hz) j hj]
    unfold xel
    rw [gu 1 _ (by decide), gu 3 _ (by decide), gu 4 _ (by decide), gu 5 _ (by decide), O 72 _ (fun w => by omega) (fun w => by omega) (fun w => by omega)]
  · show (if 7 + n = 7 + n then hq else h _) 0 = _
    rw [if_pos rfl, gu 5 _ (by decide), b2]
  · refine hk.less (fun u j ho => ?_)
    have ne : ∀ {t i : Nat} {x : va_E} {en : Nat → Nat → va_E}, ¬ (u = t ∧ j = i) → ge_en t i x en u j = en u j := fun h => ge_n h
    by_cases c3 : u = 3 ∧ j = n
    · obtain ⟨rfl, rfl⟩ := c3
      refine ⟨Or.inr (Or.inr (Or.inr (Or.inl ⟨rfl, rfl⟩))), rfl, ?_⟩
      refine Eq.trans ?_ (((if_neg (fun z => absurd z.1 (by decide))).trans (if_neg (fun z => absurd z.1 (by decide)))).trans ge_s).symm
      have ex : ffs (na_ad (7 + j) q g) S' j = xb_F g j f := by
        simp only [ffs, xb_F]
        rw [show (30 : Nat) = 30 + 0 from rfl, F 0 (by decide), F 1 (by decide), F 2 (by decide), F 3 (by decide), F 4 (by decide), F 5 (by decide), F 6 (by decide), F 7 (by decide), F 8 (by decide), F 9 (by decide), F 10 (by decide), F 11 (by decide), F 12 (by decide), gu 1 _ (by decide), gu 0 _ (by decide)]
      exact congrArg (fun z => (Sum.inr (2, z) : va_E)) ex
    by_cases c1 : u = 1 ∧ j = 7 + n
    · obtain ⟨rfl, rfl⟩ := c1
      refine ⟨Or.inr (Or.inr (Or.inl ⟨rfl, rfl⟩)), rfl, ?_⟩
      refine Eq.trans ?_ ((if_neg (fun z => absurd z.1 (by decide))).trans (if_pos ⟨rfl, rfl⟩)).symm
      show (Sum.inr (5, [.int (S' 20 (7 + n)), .ref (if cz S' (7 + n) = 0 then C.2.1 else na_ad (7 + n) q g 2 (7 + n)), .int (S' 21 (7 + n))]) : va_E) = _
      rw [K, if_pos rfl, if_neg (by decide), T20.1, T20.2.1, show na_ad (7 + n) q g 2 (7 + n) = q from if_pos ⟨rfl, rfl⟩]
      rfl
    by_cases c2 : u = 2 ∧ j = 7 + n
    · obtain ⟨rfl, rfl⟩ := c2
      refine ⟨Or.inl ⟨rfl, rfl⟩, rfl, ?_⟩
      refine Eq.trans ?_ (if_pos ⟨rfl, rfl⟩).symm
      show (Sum.inl (E.2.2.2.2, cz S' (7 + n), .inr (.inr (.inr (.inr (if 7 + n = 7 + n then hq else h (7 + n)))))) : va_E) = _
      rw [K, if_pos rfl, if_pos rfl]
      rfl
    by_cases c5 : u = 5 ∧ j = 16 * n
    · obtain ⟨rfl, rfl⟩ := c5
      refine ⟨Or.inr (Or.inl ⟨rfl, rfl⟩), rfl, ?_⟩
      refine Eq.trans ?_ (((if_neg (fun z => absurd z.1 (by decide))).trans (if_neg (fun z => absurd z.1 (by decide)))).trans ((ge_n (fun z => absurd z.1 (by decide))).trans ge_s)).symm
      show (Sum.inr (3, [.int (S' 70 (16 * n)), .int (S' 71 (16 * n))]) : va_E) = _
      rw [T20.2.2.2.1, T20.2.2.2.2]
    · have hx : xok S u j := by
        rcases ho with ho | ho | ho | ho | ho
        · rw [← okS]; exact ho
        · exact absurd ho c3
        · exact absurd ho c1
        · exact absurd ho c2
        · exact absurd ho c5
      refine ⟨Or.inr (Or.inr (Or.inr (Or.inr hx))), rfl, ?_⟩
      refine Eq.trans ?_ (((if_neg c2).trans (if_neg c1)).trans ((ne c3).trans ((ne c5).trans (ne c1)))).symm
      refine xen_same (fun u j hne _ _ => gu u j hne) hx ?_
      match u, hx with
      | 0, _ => exact fun k hk => O k 0 (fun z => by omega) (fun z => by omega) (fun z => by omega)
      | 1, _ =>
        have e : j ≠ 7 + n := fun z => c1 ⟨rfl, z⟩
        exact ⟨O _ _ (fun z => by omega) (fun z => e z.2) (fun z => by omega), O _ _ (fun z => by omega) (fun z => e z.2) (fun z => by omega), O _ _ (fun z => by omega) (fun z => e z.2) (fun z => by omega), if_neg (fun z => e z.2)⟩
      | 2, _ =>
        have e : j ≠ 7 + n := fun z => c2 ⟨rfl, z⟩
        exact ⟨O _ _ (fun z => by omega) (fun z => e z.2) (fun z => by omega), if_neg e⟩
      | 3, _ =>
        have e : j ≠ n := fun z => c3 ⟨rfl, z⟩
        exact fun k hk => O _ _ (fun z => e z.2) (fun z => by omega) (fun z => by omega)
      | 4, _ => exact fun k hk => O _ _ (fun z => by omega) (fun z => by omega) (fun z => by omega)
      | 5, _ =>
        have e : j ≠ 16 * n := fun z => c5 ⟨rfl, z⟩
        exact ⟨O _ _ (fun z => by omega) (fun z => by omega) (fun z => e z.2), O _ _ (fun z => by omega) (fun z => by omega) (fun z => e z.2)⟩
      | 6, hx =>
        have hj : 1 ≤ j ∧ j ≤ 4 := hx
        exact funext (fun x => O _ _ (fun z => by omega) (fun z => by omega) (fun z => by omega))
      | u + 7, hx => exact hx.elim
/-- after add: a list of Lostroom's with the new find -/
theorem x_found {E : en_T} {C : ex_C} {g : kw_A} {h : xh_T} {S : gs_T} {A : Nat → Prop} {H : Heap} {f : Nat → Int32} {d r : Int32} (hI : xi_ok S) (hn1 : nz S 1 < 30)
    (hh : xh C g h (xb_S S (nz S 1) f d r)) (hh0 : h (7 + nz S 1) 0 = some (g 5 (16 * nz S 1))) (hW : ad_W E (xokF (nz S 1) (xb_S S (nz S 1) f d r)) g (xen E C g h (xb_S S (nz S 1) f d r)) A 1 (S 20 1 + 1) (nz S 1) (cz S 1) (h 1) (g 3 (nz S 1)) H) :
    ∃ (g' : kw_A) (h' : xh_T), (∀ u j, u ≠ 2 → g' u j = g u j) ∧ xh C g' h' (xs_add (xb_S S (nz S 1) f d r) 1) ∧ xw E C g' h' (xs_add (xb_S S (nz S 1) f d r) 1) A H := by
  obtain ⟨q, hq, b1, b2, hk⟩ := hW
  have hz := hI.2.1
  have hb : ∀ i, i < nz S 1 → nz S (7 + i) ≤ 12 := fun i hi => (hI.2.2.2.2.1 i hi).1.2.1
  generalize hn : nz S 1 = n at hn1 hh hh0 hk b1 b2 hb ⊢
  have l21 : S 21 1 = nI n := by rw [← hn]; exact hz.1
  have hcz : n ≤ cz S 1 ∧ cz S 1 ≤ 33 := ⟨by rw [← hn]; exact hz.2.2.1, hz.2.2.2.2⟩
  generalize hS2 : xb_S S n f d r = S2 at hh hk ⊢
  have N : ∀ z, nz S2 z = if z = 7 + n then 1 else nz S z := fun z => by rw [← hS2]; exact xb_nz z
  have K : ∀ z, cz S2 z = if z = 7 + n then 10 else cz S z := fun z => by rw [← hS2]; exact xb_cz z
  have n1 : nz S2 1 = n := by rw [N, if_neg (by omega)]; exact hn
  have k1 : cz S2 1 = cz S 1 := by rw [K, if_neg (by omega)]
  have o20 : S2 20 1 = S 20 1 := by rw [← hS2]; exact xb_o (fun z => by omega) (fun z => by omega) (fun z => by omega)
  have o21 : S2 21 1 = S 21 1 := by rw [← hS2]; exact xb_o (fun z => by omega) (fun z => by omega) (fun z => by omega)
  have o22 : S2 22 1 = S 22 1 := by rw [← hS2]; exact xb_o (fun z => by omega) (fun z => by omega) (fun z => by omega)
  have hz2 : xi_z S2 1 30 := by
    unfold xi_z
    rw [n1, k1, o21, o22]
    exact ⟨l21, by omega, hcz.1, hz.2.2.2.1, hcz.2⟩
  have nb := na_Cb n (by omega) (cz S 1) (by omega) hcz.1
  generalize hS3 : xs_add S2 1 = S3
  have N3 : ∀ j, nz S3 j = if j = 1 then n + 1 else nz S2 j := fun j => by rw [← hS3, xs_nz hz2 (by decide), n1]
  have K3 : ∀ j, cz S3 j = if j = 1 then na_C n (cz S 1) else cz S2 j := fun j => by rw [← hS3, xs_cz hz2 (by decide), n1, k1]
  have R3 : ∀ k, k ≠ 20 ∧ k ≠ 21 ∧ k ≠ 22 → S3 k = S2 k := fun k hk => by rw [← hS3, xs_row hk]
  have r20 : ∀ j, S3 20 j = if j = 1 then S2 20 1 + 1 else S2 20 j := fun j => by rw [← hS3, xs_20]; rfl
  have r21 : ∀ j, S3 21 j = if j = 1 then S2 21 1 + 1 else S2 21 j := fun j => by rw [← hS3, xs_21]; rfl
  have r22 : ∀ j, S3 22 j = if j = 1 then nI (na_C (nz S2 1) (cz S2 1)) else S2 22 j := fun j => by rw [← hS3, xs_22]; rfl
  have gu : ∀ u j, u ≠ 2 → na_ad 1 q g u j = g u j := fun u j hne => if_neg (fun z => hne z.1)
  have n3 : nz S3 1 = n + 1 := by rw [N3, if_pos rfl]
  have n32 : nz S3 2 = nz S2 2 := by rw [N3, if_neg (by decide)]
  refine ⟨na_ad 1 q g, fun u => if u = 1 then hq else h u, gu, ?_, ?_⟩
  · intro z hz j hj
    rw [n3] at hz
    show (if z = 1 then hq else h z) j = _
    have hx : xel C (na_ad 1 q g) S3 z j = xel C g S2 z j := by
      unfold xel
      rw [gu 1 _ (by decide), gu 3 _ (by decide), gu 4 _ (by decide), gu 5 _ (by decide), R3 72 ⟨by decide, by decide, by decide⟩]
    rw [hx]
    by_cases e : z = 1
    · subst e
      rw [if_pos rfl]
      rw [n3] at hj
      have h3 : xel C g S2 1 j = g 3 j := rfl
      rw [h3]
      by_cases ej : j = n
      · subst ej; exact b2
      · rw [b1 j (by omega), hh 1 (by omega) j (by omega)]
        rfl
    · rw [if_neg e]
      rw [N3, if_neg e] at hj
      by_cases e7 : z = 7 + n
      · subst e7
        rw [N, if_pos rfl] at hj
        have : j = 0 := by omega
        subst this
        rw [hh0]
        unfold xel
        rw [if_neg (by omega), if_neg (by omega), if_neg (by omega), if_neg (by omega), show 16 * (7 + n - 7) + 0 = 16 * n by omega]
      · exact hh z (by omega) j hj
  · have hk' : kw E (na_ok 1 (xokF n S2)) (na_ad 1 q g) (na_en 1 (.inr (5, [.int (S2 20 1 + 1), .ref q, .int (nI (nz S2 1 + 1))])) (na_x E (na_C (nz S2 1) (cz S2 1)) hq) (xen E C g h S2)) A H := by
      rw [o20, n1, k1]; exact hk
    refine x_added (S := S2) hk' (by rw [r20, if_pos rfl]) ?_ (by rw [K3, if_pos rfl, n1, k1]) (by rw [n1, k1]; exact nb.1) (Or.inl (show 1 < 7 + nz S2 1 by omega)) (fun u j ho c1 c2 => ?_)
    · rw [r21, if_pos rfl, o21, l21, n1]; exact nI_1 _
    · have key : xokF n S2 u j ∧ xsm (na_ad 1 q g) g (fun u => if u = 1 then hq else h u) h S3 S2 u j := by
        match u, ho with
        | 0, ho =>
          have hj : j = 0 := ho
          exact ⟨Or.inl hj, fun k hk => by rw [R3 k (by omega)]⟩
        | 1, ho =>
          have ho : j < 7 + nz S3 1 := ho
          rw [n3] at ho
          have e : j ≠ 1 := fun z => c1 ⟨rfl, z⟩
          refine ⟨?_, by rw [r20, if_neg e], by rw [r21, if_neg e], by rw [r22, if_neg e], (if_neg (fun z => e z.2)).symm⟩
          by_cases e7 : j = 7 + n
          · exact Or.inr (Or.inr (Or.inl ⟨rfl, e7⟩))
          · exact Or.inl (show j < 7 + nz S2 1 by omega)
        | 2, ho =>
          have ho : j < 7 + nz S3 1 ∧ cz S3 j ≠ 0 := ho
          have e : j ≠ 1 := fun z => c2 ⟨rfl, z⟩
          rw [n3, K3, if_neg e] at ho
          refine ⟨?_, by rw [r22, if_neg e], (if_neg e).symm⟩
          by_cases e7 : j = 7 + n
          · exact Or.inr (Or.inr (Or.inr (Or.inl ⟨rfl, e7⟩)))
          · exact Or.inl (show j < 7 + nz S2 1 ∧ cz S2 j ≠ 0 from ⟨by omega, ho.2⟩)
        | 3, ho =>
          have ho : j < nz S3 1 := ho
          rw [n3] at ho
          refine ⟨?_, fun k hk => by rw [R3 _ ⟨by omega, by omega, by omega⟩]⟩
          by_cases e7 : j = n
          · exact Or.inr (Or.inl ⟨rfl, e7⟩)
          · exact Or.inl (show j < nz S2 1 by omega)
        | 4, ho =>
          have ho : j < nz S3 2 := ho
          rw [n32] at ho
          exact ⟨Or.inl (show xok S2 4 j from ho), fun k hk => by rw [R3 _ ⟨by omega, by omega, by omega⟩]⟩
        | 5, ho =>
          have ho : j / 16 < nz S3 1 ∧ j % 16 < nz S3 (7 + j / 16) := ho
          rw [n3, N3, if_neg (by omega)] at ho
          refine ⟨?_, by rw [R3 70 ⟨by decide, by decide, by decide⟩], by rw [R3 71 ⟨by decide, by decide, by decide⟩]⟩
          by_cases e7 : j / 16 = n
          · have h2 := ho.2
            rw [e7, N, if_pos rfl] at h2
            exact Or.inr (Or.inr (Or.inr (Or.inr ⟨rfl, by omega⟩)))
          · exact Or.inl (show j / 16 < nz S2 1 ∧ j % 16 < nz S2 (7 + j / 16) from ⟨by omega, ho.2⟩)
        | 6, ho =>
          have hj : 1 ≤ j ∧ j ≤ 4 := ho
          exact ⟨Or.inl (show xok S2 6 j from hj), by show S2 j = S3 j; rw [R3 j ⟨by omega, by omega, by omega⟩]⟩
        | u + 7, ho => exact ho.elim
      exact ⟨key.1, (xen_same (fun u j hne _ _ => (gu u j hne).symm) ho key.2).symm⟩
/-- the store with a new claim, that no list holds yet -/
def xm_S (S : gs_T) (n : Nat) (f : Nat → Int32) : gs_T := fun k j => if (50 ≤ k ∧ k < 59) ∧ j = n then f (k - 50) else S k j
theorem xm_o {S : gs_T} {n : Nat} {f : Nat → Int32} {k j : Nat} (h1 : ¬ ((50 ≤ k ∧ k < 59) ∧ j = n)) : xm_S S n f k j = S k j := by
  unfold xm_S
  rw [if_neg h1]
theorem xm_r {S : gs_T} {n : Nat} {f : Nat → Int32} {k : Nat} (h1 : ¬ (50 ≤ k ∧ k < 59)) : xm_S S n f k = S k := funext (fun _ => xm_o (fun z => h1 z.1))
theorem xm_f {S : gs_T} {n : Nat} {f : Nat → Int32} {k : Nat} (h : k < 9) : xm_S S n f (50 + k) n = f k := by
  unfold xm_S
  rw [if_pos ⟨by omega, rfl⟩, show 50 + k - 50 = k by omega]
def xm_F (g : kw_A) (f : Nat → Int32) : List Value := [.int (f 0), .int (f 1), .int (f 2), .int (f 3), .int (f 4), .int (f 5), .int (f 6), .int (f 7), .int (f 8), .ref (g 0 0)]
theorem x_claimed {E : en_T} {C : ex_C} {g : kw_A} {h : xh_T} {S : gs_T} {A : Nat → Prop} {H : Heap} {f : Nat → Int32} (hI : xi_ok S) (hn1 : nz S 2 < 20)
    (hh : xh C g h S) (hW : ad_W E (ku_ok 4 (nz S 2) (xok S)) g (ge_en 4 (nz S 2) (.inr (4, xm_F g f)) (xen E C g h S)) A 2 (S 20 2 + 1) (nz S 2) (cz S 2) (h 2) (g 4 (nz S 2)) H) :
    ∃ (g' : kw_A) (h' : xh_T), (∀ u j, u ≠ 2 → g' u j = g u j) ∧ xh C g' h' (xs_add (xm_S S (nz S 2) f) 2) ∧ xw E C g' h' (xs_add (xm_S S (nz S 2) f) 2) A H := by
  obtain ⟨q, hq, b1, b2, hk⟩ := hW
  have hz := hI.2.2.1
  generalize hn : nz S 2 = n at hn1 hk b1 b2 ⊢
  have l21 : S 21 2 = nI n := by rw [← hn]; exact hz.1
  have hcz : n ≤ cz S 2 ∧ cz S 2 ≤ 33 := ⟨by rw [← hn]; exact hz.2.2.1, hz.2.2.2.2⟩
  generalize hS2 : xm_S S n f = S2
  have R2 : ∀ k, ¬ (50 ≤ k ∧ k < 59) → S2 k = S k := fun k hk => by rw [← hS2]; exact xm_r hk
  have O2 : ∀ k j, j ≠ n → S2 k j = S k j := fun k j hj => by rw [← hS2]; exact xm_o (fun z => hj z.2)
  have F2 : ∀ k, k < 9 → S2 (50 + k) n = f k := fun k hk => by rw [← hS2]; exact xm_f hk
  have N : ∀ z, nz S2 z = nz S z := fun z => by unfold nz; rw [R2 21 (by decide)]
  have K : ∀ z, cz S2 z = cz S z := fun z => by unfold cz; rw [R2 22 (by decide)]
  have hz2 : xi_z S2 2 20 := by
    unfold xi_z
    rw [N, K, R2 21 (by decide), R2 22 (by decide), hn]
    exact ⟨l21, by omega, hcz.1, hz.2.2.2.1, hcz.2⟩
  have nb := na_Cb n (by omega) (cz S 2) (by omega) hcz.1
  generalize hS3 : xs_add S2 2 = S3
  have N3 : ∀ j, nz S3 j = if j = 2 then n + 1 else nz S j := fun j => by rw [← hS3, xs_nz hz2 (by decide), N, N, hn]
  have K3 : ∀ j, cz S3 j = if j = 2 then na_C n (cz S 2) else cz S j := fun j => by rw [← hS3, xs_cz hz2 (by decide), N, K, K, hn]
  have R3 : ∀ k, k ≠ 20 ∧ k ≠ 21 ∧ k ≠ 22 → S3 k = S2 k := fun k hk => by rw [← hS3, xs_row hk]
  have r20 : ∀ j, S3 20 j = if j = 2 then S 20 2 + 1 else S 20 j := fun j => by rw [← hS3, xs_20, R2 20 (by decide)]; rfl
  have r21 : ∀ j, S3 21 j = if j = 2 then S 21 2 + 1 else S 21 j := fun j => by rw [← hS3, xs_21, R2 21 (by decide)]; rfl
  have r22 : ∀ j, j ≠ 2 → S3 22 j = S 22 j := fun j hj => by rw [← hS3, xs_22, R2 22 (by decide)]; exact if_neg hj
  have gu : ∀ u j, u ≠ 2 → na_ad 2 q g u j = g u j := fun u j hne => if_neg (fun z => hne z.1)
  have n3 : nz S3 1 = nz S 1 := by rw [N3, if_neg (by decide)]
  have n32 : nz S3 2 = n + 1 := by rw [N3, if_pos rfl]
  refine ⟨na_ad 2 q g, fun u => if u = 2 then hq else h u, gu, ?_, ?_⟩
  · intro z hz j hj
    rw [n3] at hz
    show (if z = 2 then hq else h z) j = _
    have hx : xel C (na_ad 2 q g) S3 z j = xel C g S z j := by
      unfold xel
      rw [gu 1 _ (by decide), gu 3 _ (by decide), gu 4 _ (by decide), gu 5 _ (by decide), R3 72 ⟨by decide, by decide, by decide⟩, R2 72 (by decide)]
    rw [hx]
    by_cases e : z = 2
    · subst e
      rw [if_pos rfl]
      rw [n32] at hj
      have h3 : xel C g S 2 j = g 4 j := rfl
      rw [h3]
      by_cases ej : j = n
      · subst ej; exact b2
      · rw [b1 j (by omega), hh 2 (by omega) j (by omega)]
        rfl
    · rw [if_neg e]
      rw [N3, if_neg e] at hj
      exact hh z (by omega) j hj
  · have hk' : kw E (na_ok 2 (ku_ok 4 n (xok S))) (na_ad 2 q g) (na_en 2 (.inr (5, [.int (S 20 2 + 1), .ref q, .int (nI (nz S 2 + 1))])) (na_x E (na_C (nz S 2) (cz S 2)) hq) (ge_en 4 n (.inr (4, xm_F g f)) (xen E C g h S))) A H := by
      rw [hn]; exact hk
    refine x_added (S := S) hk' (by rw [r20, if_pos rfl]) ?_ (by rw [K3, if_pos rfl, hn]) (by rw [hn]; exact nb.1) (Or.inr (show 2 < 7 + nz S 1 by omega)) (fun u j ho c1 c2 => ?_)
    · rw [r21, if_pos rfl, l21, hn]; exact nI_1 _
    · by_cases c : u = 4 ∧ j = n
      · refine ⟨Or.inl c, ?_⟩
        obtain ⟨rfl, rfl⟩ := c
        rw [ge_s]
        have ex : cfs (na_ad 2 q g) S3 j = xm_F g f := by
          simp only [cfs, xm_F]
          rw [R3 50 ⟨by decide, by decide, by decide⟩, R3 51 ⟨by decide, by decide, by decide⟩, R3 52 ⟨by decide, by decide, by decide⟩, R3 53 ⟨by decide, by decide, by decide⟩, R3 54 ⟨by decide, by decide, by decide⟩, R3 55 ⟨by decide, by decide, by decide⟩, R3 56 ⟨by decide, by decide, by decide⟩, R3 57 ⟨by decide, by decide, by decide⟩, R3 58 ⟨by decide, by decide, by decide⟩, show (50 : Nat) = 50 + 0 from rfl, F2 0 (by decide), F2 1 (by decide), F2 2 (by decide), F2 3 (by decide), F2 4 (by decide), F2 5 (by decide), F2 6 (by decide), F2 7 (by decide), F2 8 (by decide), gu 0 _ (by decide)]
        exact congrArg (fun z => (Sum.inr (4, z) : va_E)) ex
      · rw [ge_n c]
        have key : xok S u j ∧ xsm g (na_ad 2 q g) h (fun u => if u = 2 then hq else h u) S S3 u j := by
          match u, ho with
          | 0, ho =>
            have hj : j = 0 := ho
            exact ⟨hj, fun k hk => by rw [R3 k (by omega), R2 k (by omega)]⟩
          | 1, ho =>
            have ho : j < 7 + nz S3 1 := ho
            rw [n3] at ho
            have e : j ≠ 2 := fun z => c1 ⟨rfl, z⟩
            exact ⟨ho, by rw [r20, if_neg e], by rw [r21, if_neg e], r22 j e, if_neg (fun z => e z.2)⟩
          | 2, ho =>
            have ho : j < 7 + nz S3 1 ∧ cz S3 j ≠ 0 := ho
            have e : j ≠ 2 := fun z => c2 ⟨rfl, z⟩
            rw [n3, K3, if_neg e] at ho
            exact ⟨ho, r22 j e, if_neg e⟩
          | 3, ho =>
            have ho : j < nz S3 1 := ho
            rw [n3] at ho
            exact ⟨ho, fun k hk => by rw [R3 _ ⟨by omega, by omega, by omega⟩, R2 _ (by omega)]⟩
          | 4, ho =>
            have ho : j < nz S3 2 := ho
            rw [n32] at ho
            have e : j ≠ n := fun z => c ⟨rfl, z⟩
            exact ⟨show j < nz S 2 by omega, fun k hk => by rw [R3 _ ⟨by omega, by omega, by omega⟩, O2 _ _ e]⟩
          | 5, ho =>
            have ho : j / 16 < nz S3 1 ∧ j % 16 < nz S3 (7 + j / 16) := ho
            rw [n3, N3, if_neg (by omega)] at ho
            exact ⟨ho, by rw [R3 70 ⟨by decide, by decide, by decide⟩, R2 70 (by decide)], by rw [R3 71 ⟨by decide, by decide, by decide⟩, R2 71 (by decide)]⟩
          | 6, ho =>
            have hj : 1 ≤ j ∧ j ≤ 4 := ho
            exact ⟨show xok S 6 j from hj, by show S3 j = S j; rw [R3 j ⟨by omega, by omega, by omega⟩, R2 j (by omega)]⟩
          | u + 7, ho => exact ho.elim
        exact ⟨Or.inr key.1, xen_same (fun u j hne _ _ => gu u j hne) key.1 key.2⟩
