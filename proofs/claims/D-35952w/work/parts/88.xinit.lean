theorem ck_no6 {k : Nat} : ¬ okK k 6 k := fun h => by
  rcases h with h | h | h
  · exact absurd h.1 (by decide)
  · omega
  · exact absurd h.1 (by decide)
theorem ck_no1 {k z : Nat} (hz : (k = 5 ∧ z = 0) ∨ (k = 7 ∧ z = 1) ∨ (k = 8 ∧ z = 2)) : ¬ okK k 1 z := fun h => by
  rcases h with h | h | h
  · exact absurd h.1 (by decide)
  · exact absurd h.1 (by decide)
  · omega
theorem ck_arr {E : en_T} {C : ex_C} {g : kw_A} {A : Nat → Prop} {H : Heap} {k len : Nat} (h4 : k ≤ 4) (hl : len = if k = 1 then 24 else 8) (hR : kw E (ku_ok 6 k (okK k)) g (ge_en 6 k (.inl (E.2.1, len, .inl (fun _ => 0))) (enK E C g k)) A H) : kw E (okK (k + 1)) g (enK E C g k) A H := by
  refine hR.less (fun u j ho => ?_)
  by_cases c : u = 6 ∧ j = k
  · obtain ⟨rfl, rfl⟩ := c
    refine ⟨Or.inl ⟨rfl, rfl⟩, rfl, ?_⟩
    rw [ge_s, hl]
    rfl
  · refine ⟨Or.inr ?_, rfl, (ge_n c).symm⟩
    rcases ho with h | h | h
    · exact Or.inl h
    · exact Or.inr (Or.inl ⟨h.1, h.2.1, h.2.2.1, by have := h.1; omega⟩)
    · exact Or.inr (Or.inr ⟨h.1, by omega⟩)
theorem ck_lst {E : en_T} {C : ex_C} {g : kw_A} {A : Nat → Prop} {H : Heap} {k z : Nat} {x : va_E} (hz : (k = 5 ∧ z = 0) ∨ (k = 7 ∧ z = 1) ∨ (k = 8 ∧ z = 2)) (hR : kw E (ku_ok 1 z (okK k)) g (la_en z (.inr (5, [.int 0, .ref C.2.1, .int 0])) (ge_en 1 z x (enK E C g k))) A H) : kw E (okK (k + 1)) g (enK E C g k) A H := by
  rw [la_ge, ge_ge] at hR
  refine hR.less (fun u j ho => ?_)
  by_cases c : u = 1 ∧ j = z
  · obtain ⟨rfl, rfl⟩ := c
    refine ⟨Or.inl ⟨rfl, rfl⟩, rfl, ?_⟩
    rw [ge_s]
    rfl
  · refine ⟨Or.inr ?_, rfl, (ge_n c).symm⟩
    rcases ho with h | h | h
    · exact Or.inl h
    · exact Or.inr (Or.inl ⟨h.1, h.2.1, h.2.2.1, by omega⟩)
    · refine Or.inr (Or.inr ⟨h.1, ?_⟩)
      have hj : j ≠ z := fun e => c ⟨h.1, e⟩
      omega
theorem ck_thr {E : en_T} {C : ex_C} {g : kw_A} {A : Nat → Prop} {H : Heap} {en : Nat → Nat → va_E} (hR : kw E (okK 6) g en A H) : kw E (okK 7) g en A H := by
  refine hR.less (fun u j ho => ⟨?_, rfl, rfl⟩)
  rcases ho with h | h | h
  · exact Or.inl h
  · exact Or.inr (Or.inl ⟨h.1, h.2.1, h.2.2.1, by omega⟩)
  · exact Or.inr (Or.inr ⟨h.1, by omega⟩)
theorem enK_put {E : en_T} {C : ex_C} {g : kw_A} {a b k : Nat} : ∀ u j, okK k u j → ¬ (u = 0 ∧ j = 0) → enK E C g b u j = enK E C g a u j := fun u j ho hne => by
  have hu : u ≠ 0 := fun z => by
    rcases ho with h | h | h
    · exact hne h
    · rw [z] at h; exact absurd h.1 (by decide)
    · rw [z] at h; exact absurd h.1 (by decide)
  exact (if_neg hu).trans (if_neg hu).symm
theorem xenC_al {E : en_T} {C : ex_C} {g g' : kw_A} {h : xh_T} {S : gs_T} {m : Nat} {b : Bool} (hm : 3 ≤ m) (hg : ∀ u j, ¬ (u = 1 ∧ j = m) → g' u j = g u j) : ∀ u j, okC m b u j → xen E C g' h S u j = xen E C g h S u j := fun u j ho => by
  rcases ho with ⟨rfl, rfl⟩ | ⟨rfl, h1⟩ | ⟨rfl, h1⟩ | ⟨rfl, h1⟩
  · have ex : xfs g' S = xfs g S := by
      simp only [xfs]
      rw [hg 6 1 (fun z => absurd z.1 (by decide)), hg 6 2 (fun z => absurd z.1 (by decide)), hg 6 3 (fun z => absurd z.1 (by decide)), hg 6 4 (fun z => absurd z.1 (by decide)), hg 1 0 (fun z => by omega), hg 1 1 (fun z => by omega), hg 1 2 (fun z => by omega)]
    exact congrArg (fun z => (Sum.inr (0, z) : va_E)) ex
  · rfl
  · show (Sum.inr (5, [.int (S 20 j), .ref (if cz S j = 0 then C.2.1 else g' 2 j), .int (S 21 j)]) : va_E) = .inr (5, [.int (S 20 j), .ref (if cz S j = 0 then C.2.1 else g 2 j), .int (S 21 j)])
    rw [hg 2 j (fun z => absurd z.1 (by decide))]
  · rfl
theorem okC_no {m : Nat} {b : Bool} : ¬ okC m b 1 m := fun h => by
  rcases h with h | h | h | h
  · exact absurd h.1 (by decide)
  · exact absurd h.1 (by decide)
  · omega
  · exact absurd h.1 (by decide)
theorem c_lst {E : en_T} {C : ex_C} {g : kw_A} {h : xh_T} {A : Nat → Prop} {H : Heap} {i : Nat} {b : Bool} {x : va_E} (hR : kw E (ku_ok 1 (3 + i) (okC (3 + i) b)) g (la_en (3 + i) (.inr (5, [.int 0, .ref C.2.1, .int 0])) (ge_en 1 (3 + i) x (xen E C g h (sI i)))) A H) : kw E (okC (4 + i) b) g (xen E C g h (sI i)) A H := by
  rw [la_ge, ge_ge] at hR
  refine hR.less (fun u j ho => ?_)
  by_cases c : u = 1 ∧ j = 3 + i
  · obtain ⟨rfl, rfl⟩ := c
    refine ⟨Or.inl ⟨rfl, rfl⟩, rfl, ?_⟩
    rw [ge_s]
    have e : cz (sI i) (3 + i) = 0 := by rw [sI_cz, if_neg (by omega)]
    have e1 : sI i 20 (3 + i) = 0 := by rw [sI_20, if_neg (by omega)]
    have e2 : sI i 21 (3 + i) = 0 := by rw [sI_21, if_neg (by omega)]
    show (Sum.inr (5, [.int (sI i 20 (3 + i)), .ref (if cz (sI i) (3 + i) = 0 then C.2.1 else g 2 (3 + i)), .int (sI i 21 (3 + i))]) : va_E) = _
    rw [e, if_pos rfl, e1, e2]
  · refine ⟨Or.inr ?_, rfl, (ge_n c).symm⟩
    rcases ho with h | h | h | h
    · exact Or.inl h
    · exact Or.inr (Or.inl h)
    · refine Or.inr (Or.inr (Or.inl ⟨h.1, ?_⟩))
      have hj : j ≠ 3 + i := fun e => c ⟨h.1, e⟩
      omega
    · exact Or.inr (Or.inr (Or.inr h))
set_option maxHeartbeats 4000000 in
set_option maxRecDepth 100000 in
theorem xt_init (l : Launch) (E : en_T) (C : ex_C) (A : Nat → Prop) (sz : Nat) (g : kw_A) (x0 : Nat) : Met l yX1_init (ws_ yX1_init cX1_init 2 none) { frames := 7, cells := 15, slots := 79, locals := 241 } (cpc E C A sz [.ref x0] (kw E (okK 1) g (enK E C g 1) A) (g 0 0 = x0)) (cq_Q none (fun H => ∃ (g' : kw_A) (h' : xh_T), g' 0 0 = x0 ∧ xh C g' h' (sI 4) ∧ xw E C g' h' (sI 4) A H) A) 15 79 A := by
  refine cq_start (by decide) (Nat.le_of_ble_eq_true rfl) ?_
  intro p e s m below meth c ls hx hb hr hlocks hml hown hnm hts hsz hK hZ hA hR hg hl
  subst hsz
  have hAA : ∀ a, A a → A a := fun _ h => h
  have hl : lv_has ls 2 [(0, .ref x0)] := hl
  have hS : va_S A s.heap s.heap [] := va_S.rf
  refine lv_aload_n hx hb dX1_init_0 rfl (lv_at hl 0 rfl) ?_
  refine W.objInit hx hb hown (hts _ q65) (hts _ q66) (hts _ q67) rfl (by rw [hml]; exact hl.1) rfl dX1_init_1 (Nat.le_of_ble_eq_true rfl) (Nat.le_of_ble_eq_true rfl) ?_
  refine W.eq (g2 := F0 m 4 ls []) rfl ?_
  refine lv_aload_n hx hb dX1_init_4 rfl (lv_at hl 0 rfl) ?_
  refine lv_bipush (v := 24) hx hb dX1_init_5 (by decide) ?_
  refine kw_newi (N' := 24) hx hb (hts _ q97) hK.1 hR hS hA (by decide) rfl (Nat.le_of_ble_eq_true rfl) (Nat.le_of_ble_eq_true rfl) (Nat.le_of_ble_eq_true rfl) dX1_init_7 6 1 (fun q H hR hS => ?_)
  obtain ⟨g, hgq, hgo, hR⟩ := k_new (enF := fun g => enK E C g 1) (fun g9 h9 => enK_al ck_no6 h9) hR
  have hg := (hgo 0 0 (fun z => absurd z.1 (by decide))).trans hg
  have hR := ck_arr (by decide) rfl hR
  refine W.eq (g2 := F0 m 9 ls [.ref (g 6 1), .ref (g 0 0)]) (f0_2 hgq.symm hg.symm) ?_
  refine kw_put (v := .ref (g 6 1)) (C := RX1) (T := TX1) (N := 12) hx hb hts in_X1 tyX1 tyX1_ok nmX1 hown hK.1 hR hS 0 0 (Or.inl ⟨rfl, rfl⟩) (show enK E C g 1 0 0 = .inr (0, ck_fs g 1) from rfl) rfl 1 (by decide) (hts _ q169) (fun _ h9 => h9) (Or.inr ⟨rfl, hnm, rfl⟩) rfl rfl rfl (Nat.le_of_ble_eq_true rfl) dX1_init_9 (enK E C g 2) rfl enK_put (fun H locs hR hS => ?_)
  refine lv_aload_n hx hb dX1_init_12 rfl (lv_at hl 0 rfl) ?_
  refine lv_bipush (v := 8) hx hb dX1_init_13 (by decide) ?_
  refine kw_newi (N' := 8) hx hb (hts _ q97) hK.1 hR hS hA (by decide) rfl (Nat.le_of_ble_eq_true rfl) (Nat.le_of_ble_eq_true rfl) (Nat.le_of_ble_eq_true rfl) dX1_init_15 6 2 (fun q H hR hS => ?_)
  obtain ⟨g, hgq, hgo, hR⟩ := k_new (enF := fun g => enK E C g 2) (fun g9 h9 => enK_al ck_no6 h9) hR
  have hg := (hgo 0 0 (fun z => absurd z.1 (by decide))).trans hg
  have hR := ck_arr (by decide) rfl hR
  refine W.eq (g2 := F0 m 17 ls [.ref (g 6 2), .ref (g 0 0)]) (f0_2 hgq.symm hg.symm) ?_
  refine kw_put (v := .ref (g 6 2)) (C := RX1) (T := TX1) (N := 12) hx hb hts in_X1 tyX1 tyX1_ok nmX1 hown hK.1 hR hS 0 0 (Or.inl ⟨rfl, rfl⟩) (show enK E C g 2 0 0 = .inr (0, ck_fs g 2) from rfl) rfl 2 (by decide) (hts _ q170) (fun _ h9 => h9) (Or.inr ⟨rfl, hnm, rfl⟩) rfl rfl rfl (Nat.le_of_ble_eq_true rfl) dX1_init_17 (enK E C g 3) rfl enK_put (fun H locs hR hS => ?_)
  refine lv_aload_n hx hb dX1_init_20 rfl (lv_at hl 0 rfl) ?_
  refine lv_bipush (v := 8) hx hb dX1_init_21 (by decide) ?_
  refine kw_newi (N' := 8) hx hb (hts _ q97) hK.1 hR hS hA (by decide) rfl (Nat.le_of_ble_eq_true rfl) (Nat.le_of_ble_eq_true rfl) (Nat.le_of_ble_eq_true rfl) dX1_init_23 6 3 (fun q H hR hS => ?_)
  obtain ⟨g, hgq, hgo, hR⟩ := k_new (enF := fun g => enK E C g 3) (fun g9 h9 => enK_al ck_no6 h9) hR
  have hg := (hgo 0 0 (fun z => absurd z.1 (by decide))).trans hg
  have hR := ck_arr (by decide) rfl hR
  refine W.eq (g2 := F0 m 25 ls [.ref (g 6 3), .ref (g 0 0)]) (f0_2 hgq.symm hg.symm) ?_
  refine kw_put (v := .ref (g 6 3)) (C := RX1) (T := TX1) (N := 12) hx hb hts in_X1 tyX1 tyX1_ok nmX1 hown hK.1 hR hS 0 0 (Or.inl ⟨rfl, rfl⟩) (show enK E C g 3 0 0 = .inr (0, ck_fs g 3) from rfl) rfl 3 (by decide) (hts _ q172) (fun _ h9 => h9) (Or.inr ⟨rfl, hnm, rfl⟩) rfl rfl rfl (Nat.le_of_ble_eq_true rfl) dX1_init_25 (enK E C g 4) rfl enK_put (fun H locs hR hS => ?_)
  refine lv_aload_n hx hb dX1_init_28 rfl (lv_at hl 0 rfl) ?_
  refine lv_bipush (v := 8) hx hb dX1_init_29 (by decide) ?_
  refine kw_newi (N' := 8) hx hb (hts _ q97) hK.1 hR hS hA (by decide) rfl (Nat.le_of_ble_eq_true rfl) (Nat.le_of_ble_eq_true rfl) (Nat.le_of_ble_eq_true rfl) dX1_init_31 6 4 (fun q H hR hS => ?_)
  obtain ⟨g, hgq, hgo, hR⟩ := k_new (enF := fun g => enK E C g 4) (fun g9 h9 => enK_al ck_no6 h9) hR
  have hg := (hgo 0 0 (fun z => absurd z.1 (by decide))).trans hg
  have hR := ck_arr (by decide) rfl hR
  refine W.eq (g2 := F0 m 33 ls [.ref (g 6 4), .ref (g 0 0)]) (f0_2 hgq.symm hg.symm) ?_
  refine kw_put (v := .ref (g 6 4)) (C := RX1) (T := TX1) (N := 12) hx hb hts in_X1 tyX1 tyX1_ok nmX1 hown hK.1 hR hS 0 0 (Or.inl ⟨rfl, rfl⟩) (show enK E C g 4 0 0 = .inr (0, ck_fs g 4) from rfl) rfl 4 (by decide) (hts _ q173) (fun _ h9 => h9) (Or.inr ⟨rfl, hnm, rfl⟩) rfl rfl rfl (Nat.le_of_ble_eq_true rfl) dX1_init_33 (enK E C g 5) rfl enK_put (fun H locs hR hS => ?_)
  refine lv_aload_n hx hb dX1_init_36 rfl (lv_at hl 0 rfl) ?_
  refine kw_new (ci := 5) (C := RJ2) (T := TJ2) (N := 3) (fs := [.int 0, .null, .int 0]) hx hb hts in_J2 tyJ2 tyJ2_ok hown (hts _ q68) (hts _ q69) (hts _ q36) hK.1 hR hS hA rfl (by intro j hj; rcases (show j = 0 ∨ j = 1 ∨ j = 2 by omega) with rfl | rfl | rfl <;> rfl) (Nat.le_of_ble_eq_true rfl) (Nat.le_of_ble_eq_true rfl) dX1_init_37 1 0 (ck_no1 (Or.inl ⟨rfl, rfl⟩)) (fun q H hq hz hR hS => ?_)
  obtain ⟨g, hgq, hgo, hR⟩ := k_new (enF := fun g => enK E C g 5) (fun g9 h9 => enK_al (ck_no1 (Or.inl ⟨rfl, rfl⟩)) h9) hR
  have hg := (hgo 0 0 (fun z => absurd z.1 (by decide))).trans hg
  refine W.eq (g2 := F0 m 40 ls [.ref (g 1 0), .ref (g 0 0)]) (f0_2 hgq.symm hg.symm) ?_
  refine lv_dup hx hb dX1_init_40 rfl ?_
  refine cq_I (v := none) (As := []) (rest := [.ref (g 1 0), .ref (g 0 0)]) hK hZ hA hAA hS hR ⟨Or.inl ⟨rfl, rfl⟩, ge_s⟩ (jt_J2init l E C A H.size (ku_ok 1 0 (okK 5)) g (ge_en 1 0 (.inr (5, [.int 0, .null, .int 0])) (enK E C g 5)) 0) (fun _ h => h) ⟨hx, hb, hml, hown, hts⟩ (cwI 0 hts (lw_meth q72) rfl rfl rfl (hts _ q36) (hts _ q70) (hts _ q71) rfl (by decide +kernel) ⟨Nat.le_of_ble_eq_true rfl, Nat.le_of_ble_eq_true rfl⟩) rfl hl.1 rfl (Nat.le_of_ble_eq_true rfl) dX1_init_41 ⟨Nat.le_of_ble_eq_true rfl, Nat.le_of_ble_eq_true rfl⟩ (fun H locs hB hz hk hS => ?_)
  have hR := ck_lst (Or.inl ⟨rfl, rfl⟩) hB
  refine W.eq (g2 := F0 m 44 ls [.ref (g 1 0), .ref (g 0 0)]) rfl ?_
  refine kw_put (v := .ref (g 1 0)) (C := RX1) (T := TX1) (N := 12) hx hb hts in_X1 tyX1 tyX1_ok nmX1 hown hK.1 hR hS 0 0 (Or.inl ⟨rfl, rfl⟩) (show enK E C g 5 0 0 = .inr (0, ck_fs g 5) from rfl) rfl 5 (by decide) (hts _ q174) (fun _ h9 => h9) (Or.inr ⟨rfl, hnm, rfl⟩) rfl rfl rfl (Nat.le_of_ble_eq_true rfl) dX1_init_44 (enK E C g 6) rfl enK_put (fun H locs hR hS => ?_)
  refine lv_aload_n hx hb dX1_init_47 rfl (lv_at hl 0 rfl) ?_
  refine lv_bipush (v := 50) hx hb dX1_init_48 (by decide) ?_
  refine W.eq (g2 := F0 m 50 ls [.int 50, .ref (g 0 0)]) (congrArg (fun a => F0 m 50 ls [.int 50, .ref a]) hg.symm) ?_
  refine kw_put (v := .int 50) (C := RX1) (T := TX1) (N := 12) hx hb hts in_X1 tyX1 tyX1_ok nmX1 hown hK.1 hR hS 0 0 (Or.inl ⟨rfl, rfl⟩) (show enK E C g 6 0 0 = .inr (0, ck_fs g 6) from rfl) rfl 6 (by decide) (hts _ q175) (fun _ h9 => h9) (Or.inl rfl) rfl rfl rfl (Nat.le_of_ble_eq_true rfl) dX1_init_50 (enK E C g 7) rfl enK_put (fun H locs hR hS => ?_)
  have hR := ck_thr (C := C) hR
  refine lv_aload_n hx hb dX1_init_53 rfl (lv_at hl 0 rfl) ?_
  refine kw_new (ci := 5) (C := RJ2) (T := TJ2) (N := 3) (fs := [.int 0, .null, .int 0]) hx hb hts in_J2 tyJ2 tyJ2_ok hown (hts _ q68) (hts _ q69) (hts _ q36) hK.1 hR hS hA rfl (by intro j hj; rcases (show j = 0 ∨ j = 1 ∨ j = 2 by omega) with rfl | rfl | rfl <;> rfl) (Nat.le_of_ble_eq_true rfl) (Nat.le_of_ble_eq_true rfl) dX1_init_54 1 1 (ck_no1 (Or.inr (Or.inl ⟨rfl, rfl⟩))) (fun q H hq hz hR hS => ?_)
  obtain ⟨g, hgq, hgo, hR⟩ := k_new (enF := fun g => enK E C g 7) (fun g9 h9 => enK_al (ck_no1 (Or.inr (Or.inl ⟨rfl, rfl⟩))) h9) hR
  have hg := (hgo 0 0 (fun z => absurd z.1 (by decide))).trans hg
  refine W.eq (g2 := F0 m 57 ls [.ref (g 1 1), .ref (g 0 0)]) (f0_2 hgq.symm hg.symm) ?_
  refine lv_dup hx hb dX1_init_57 rfl ?_
  refine cq_I (v := none) (As := []) (rest := [.ref (g 1 1), .ref (g 0 0)]) hK hZ hA hAA hS hR ⟨Or.inl ⟨rfl, rfl⟩, ge_s⟩ (jt_J2init l E C A H.size (ku_ok 1 1 (okK 7)) g (ge_en 1 1 (.inr (5, [.int 0, .null, .int 0])) (enK E C g 7)) 1) (fun _ h => h) ⟨hx, hb, hml, hown, hts⟩ (cwI 0 hts (lw_meth q72) rfl rfl rfl (hts _ q36) (hts _ q70) (hts _ q71) rfl (by decide +kernel) ⟨Nat.le_of_ble_eq_true rfl, Nat.le_of_ble_eq_true rfl⟩) rfl hl.1 rfl (Nat.le_of_ble_eq_true rfl) dX1_init_58 ⟨Nat.le_of_ble_eq_true rfl, Nat.le_of_ble_eq_true rfl⟩ (fun H locs hB hz hk hS => ?_)
  have hR := ck_lst (Or.inr (Or.inl ⟨rfl, rfl⟩)) hB
  refine W.eq (g2 := F0 m 61 ls [.ref (g 1 1), .ref (g 0 0)]) rfl ?_
  refine kw_put (v := .ref (g 1 1)) (C := RX1) (T := TX1) (N := 12) hx hb hts in_X1 tyX1 tyX1_ok nmX1 hown hK.1 hR hS 0 0 (Or.inl ⟨rfl, rfl⟩) (show enK E C g 7 0 0 = .inr (0, ck_fs g 7) from rfl) rfl 7 (by decide) (hts _ q176) (fun _ h9 => h9) (Or.inr ⟨rfl, hnm, rfl⟩) rfl rfl rfl (Nat.le_of_ble_eq_true rfl) dX1_init_61 (enK E C g 8) rfl enK_put (fun H locs hR hS => ?_)
  refine lv_aload_n hx hb dX1_init_64 rfl (lv_at hl 0 rfl) ?_
  refine kw_new (ci := 5) (C := RJ2) (T := TJ2) (N := 3) (fs := [.int 0, .null, .int 0]) hx hb hts in_J2 tyJ2 tyJ2_ok hown (hts _ q68) (hts _ q69) (hts _ q36) hK.1 hR hS hA rfl (by intro j hj; rcases (show j = 0 ∨ j = 1 ∨ j = 2 by omega) with rfl | rfl | rfl <;> rfl) (Nat.le_of_ble_eq_true rfl) (Nat.le_of_ble_eq_true rfl) dX1_init_65 1 2 (ck_no1 (Or.inr (Or.inr ⟨rfl, rfl⟩))) (fun q H hq hz hR hS => ?_)
  obtain ⟨g, hgq, hgo, hR⟩ := k_new (enF := fun g => enK E C g 8) (fun g9 h9 => enK_al (ck_no1 (Or.inr (Or.inr ⟨rfl, rfl⟩))) h9) hR
  have hg := (hgo 0 0 (fun z => absurd z.1 (by decide))).trans hg
  refine W.eq (g2 := F0 m 68 ls [.ref (g 1 2), .ref (g 0 0)]) (f0_2 hgq.symm hg.symm) ?_
  refine lv_dup hx hb dX1_init_68 rfl ?_
  refine cq_I (v := none) (As := []) (rest := [.ref (g 1 2), .ref (g 0 0)]) hK hZ hA hAA hS hR ⟨Or.inl ⟨rfl, rfl⟩, ge_s⟩ (jt_J2init l E C A H.size (ku_ok 1 2 (okK 8)) g (ge_en 1 2 (.inr (5, [.int 0, .null, .int 0])) (enK E C g 8)) 2) (fun _ h => h) ⟨hx, hb, hml, hown, hts⟩ (cwI 0 hts (lw_meth q72) rfl rfl rfl (hts _ q36) (hts _ q70) (hts _ q71) rfl (by decide +kernel) ⟨Nat.le_of_ble_eq_true rfl, Nat.le_of_ble_eq_true rfl⟩) rfl hl.1 rfl (Nat.le_of_ble_eq_true rfl) dX1_init_69 ⟨Nat.le_of_ble_eq_true rfl, Nat.le_of_ble_eq_true rfl⟩ (fun H locs hB hz hk hS => ?_)
  have hR := ck_lst (Or.inr (Or.inr ⟨rfl, rfl⟩)) hB
  refine W.eq (g2 := F0 m 72 ls [.ref (g 1 2), .ref (g 0 0)]) rfl ?_
  refine kw_put (v := .ref (g 1 2)) (C := RX1) (T := TX1) (N := 12) hx hb hts in_X1 tyX1 tyX1_ok nmX1 hown hK.1 hR hS 0 0 (Or.inl ⟨rfl, rfl⟩) (show enK E C g 8 0 0 = .inr (0, ck_fs g 8) from rfl) rfl 8 (by decide) (hts _ q177) (fun _ h9 => h9) (Or.inr ⟨rfl, hnm, rfl⟩) rfl rfl rfl (Nat.le_of_ble_eq_true rfl) dX1_init_72 (enK E C g 9) rfl enK_put (fun H locs hR hS => ?_)
  refine lv_aload_n hx hb dX1_init_75 rfl (lv_at hl 0 rfl) ?_
  refine W.eq (g2 := F0 m 76 ls [.ref (g 0 0)]) (congrArg (fun a => F0 m 76 ls [.ref a]) hg.symm) ?_
  refine kw_get (C := RX1) (T := TX1) (N := 12) (v := .ref (g 6 3)) hx hb hts in_X1 hown hK.1 hR 0 0 (Or.inl ⟨rfl, rfl⟩) (show enK E C g 9 0 0 = .inr (0, ck_fs g 9) from rfl) rfl 3 (by decide) (hts _ q172) (fun _ h9 => h9) rfl dX1_init_76 ?_
  refine lv_bipush (v := 60) hx hb dX1_init_79 (by decide) ?_
  refine cq_S (v := none) (As := [.ref (g 6 3), .int 60]) (rest := []) hK hZ hA hAA hS hR ⟨Or.inr (Or.inl ⟨rfl, by decide, by decide, by decide⟩), rfl, by decide⟩ (jt_fill l E C A H.size (okK 9) g (enK E C g 9) 6 3 8 (fun _ => 0) 60) (fun _ h => h) ⟨hx, hb, hml, hown, hts⟩ (va_cwS 2 hts (lw_S q98 q99 q37 q100) rfl rfl rfl (by decide +kernel) ⟨Nat.le_of_ble_eq_true rfl, Nat.le_of_ble_eq_true rfl⟩) rfl hl.1 rfl (Nat.le_of_ble_eq_true rfl) dX1_init_81 ⟨Nat.le_of_ble_eq_true rfl, Nat.le_of_ble_eq_true rfl⟩ (fun H locs hB hz hk hS => ?_)
  have hR := x_filled hB
  refine W.eq (g2 := F0 m 84 ls []) rfl ?_
  refine lv_iconst (v := 0) hx hb dX1_init_84 (by decide) ?_
  refine lv_istore_n (lv' := [(1, .int 0), (0, .ref x0)]) hx hb dX1_init_85 rfl hl (by decide) rfl (fun ls hl => ?_)
  obtain ⟨h, hh0⟩ : ∃ h : xh_T, h = fun _ _ => none := ⟨_, rfl⟩
  have hR : kw E (okC (3 + 0) (decide (0 < 0))) g (xen E C g h (sI 0)) A H := by rw [hh0]; exact hR
  have hh : ∀ j, j < 0 → h 0 j = some (g 1 (3 + j)) := fun j hj => absurd hj (Nat.not_lt_zero j)
  refine lv_iload_n hx hb dX1_init_86 rfl (lv_at hl 0 rfl) ?_
  refine lv_iconst (v := 4) hx hb dX1_init_87 (by decide) ?_
  refine lv_icmp_ge (tgt := 114) hx hb dX1_init_88 (by decide) (fun h => absurd h (by decide)) (fun _ => ?_)
  refine lv_aload_n hx hb dX1_init_91 rfl (lv_at hl 1 rfl) ?_
  refine W.eq (g2 := F0 m 92 ls [.ref (g 0 0)]) (congrArg (fun a => F0 m 92 ls [.ref a]) hg.symm) ?_
  refine kw_get (C := RX1) (T := TX1) (N := 12) (v := .ref (g 1 0)) hx hb hts in_X1 hown hK.1 hR 0 0 (Or.inl ⟨rfl, rfl⟩) (show xen E C g h (sI 0) 0 0 = .inr (0, xfs g (sI 0)) from rfl) rfl 5 (by decide) (hts _ q174) (fun _ h9 => h9) rfl dX1_init_92 ?_
  refine kw_new (ci := 5) (C := RJ2) (T := TJ2) (N := 3) (fs := [.int 0, .null, .int 0]) hx hb hts in_J2 tyJ2 tyJ2_ok hown (hts _ q68) (hts _ q69) (hts _ q36) hK.1 hR hS hA rfl (by intro j hj; rcases (show j = 0 ∨ j = 1 ∨ j = 2 by omega) with rfl | rfl | rfl <;> rfl) (Nat.le_of_ble_eq_true rfl) (Nat.le_of_ble_eq_true rfl) dX1_init_95 1 (3 + 0) okC_no (fun q H hq hz hR hS => ?_)
  obtain ⟨g, hgq, hgo, hR⟩ := k_new (enF := fun g => xen E C g h (sI 0)) (fun g9 h9 => xenC_al (by decide) h9) hR
  have hg := (hgo 0 0 (fun z => absurd z.1 (by decide))).trans hg
  refine W.eq (g2 := F0 m 98 ls [.ref (g 1 (3 + 0)), .ref (g 1 0)]) (f0_2 hgq.symm (hgo 1 0 (fun z => absurd z.2 (by decide))).symm) ?_
  refine lv_dup hx hb dX1_init_98 rfl ?_
  refine cq_I (v := none) (As := []) (rest := [.ref (g 1 (3 + 0)), .ref (g 1 0)]) hK hZ hA hAA hS hR ⟨Or.inl ⟨rfl, rfl⟩, ge_s⟩ (jt_J2init l E C A H.size (ku_ok 1 (3 + 0) (okC (3 + 0) (decide (0 < 0)))) g (ge_en 1 (3 + 0) (.inr (5, [.int 0, .null, .int 0])) (xen E C g h (sI 0))) (3 + 0)) (fun _ h => h) ⟨hx, hb, hml, hown, hts⟩ (cwI 0 hts (lw_meth q72) rfl rfl rfl (hts _ q36) (hts _ q70) (hts _ q71) rfl (by decide +kernel) ⟨Nat.le_of_ble_eq_true rfl, Nat.le_of_ble_eq_true rfl⟩) rfl hl.1 rfl (Nat.le_of_ble_eq_true rfl) dX1_init_99 ⟨Nat.le_of_ble_eq_true rfl, Nat.le_of_ble_eq_true rfl⟩ (fun H locs hB hz hk hS => ?_)
  have hR := c_lst hB
  have hh : ∀ j, j < 0 → h 0 j = some (g 1 (3 + j)) := fun j hj => (hh j hj).trans (congrArg some (hgo 1 (3 + j) (fun z => by omega)).symm)
  refine W.eq (g2 := F0 m 102 ls [.ref (g 1 (3 + 0)), .ref (g 1 0)]) rfl ?_
  refine cq_F (v := (some (.int 1))) (As := [.ref (g 1 (3 + 0))]) (rest := []) hK hZ hA hAA hS hR (c_adP (by decide) hh) (jt_add l E C A H.size (okC (4 + 0) (decide (0 < 0))) g (xen E C g h (sI 0)) 0 0 (cI 0) (nI 0) (h 0) (g 1 (3 + 0))) (fun _ h => h) (hK.1.1 5 _ rfl).2 ⟨hx, hb, hml, hown, hts⟩ (va_cwF 1 hts (lw_F q102 q106 q108 q36 q110) rfl rfl rfl (fw_add hK) (by decide +kernel) ⟨Nat.le_of_ble_eq_true rfl, Nat.le_of_ble_eq_true rfl⟩) (kw_recv (t := 1) (i := 0) hK.1 hR (Or.inr (Or.inr (Or.inl ⟨rfl, by decide⟩))) rfl rfl) rfl hl.1 rfl (Nat.le_of_ble_eq_true rfl) dX1_init_102 ⟨Nat.le_of_ble_eq_true rfl, Nat.le_of_ble_eq_true rfl⟩ (fun H locs hB hz hk hS => ?_)
  obtain ⟨g, h, hg2, hh, hR⟩ := c_add (by decide) hh hB
  have hg := (hg2 0 0 (by decide)).trans hg
  refine W.eq (g2 := F0 m 107 ls [.int 1]) rfl ?_
  refine lv_pop hx hb dX1_init_107 rfl ?_
  refine lv_iinc (v := 1) (lv' := [(1, .int 1), (0, .ref x0)]) hx hb dX1_init_108 hl (k := 0) rfl (by decide) (by decide) rfl (fun ls hl => ?_)
  refine lv_goto (tgt := 86) hx hb dX1_init_111 (by decide) ?_
  refine lv_iload_n hx hb dX1_init_86 rfl (lv_at hl 0 rfl) ?_
  refine lv_iconst (v := 4) hx hb dX1_init_87 (by decide) ?_
  refine lv_icmp_ge (tgt := 114) hx hb dX1_init_88 (by decide) (fun h => absurd h (by decide)) (fun _ => ?_)
  refine lv_aload_n hx hb dX1_init_91 rfl (lv_at hl 1 rfl) ?_
  refine W.eq (g2 := F0 m 92 ls [.ref (g 0 0)]) (congrArg (fun a => F0 m 92 ls [.ref a]) hg.symm) ?_
  refine kw_get (C := RX1) (T := TX1) (N := 12) (v := .ref (g 1 0)) hx hb hts in_X1 hown hK.1 hR 0 0 (Or.inl ⟨rfl, rfl⟩) (show xen E C g h (sI 1) 0 0 = .inr (0, xfs g (sI 1)) from rfl) rfl 5 (by decide) (hts _ q174) (fun _ h9 => h9) rfl dX1_init_92 ?_
  refine kw_new (ci := 5) (C := RJ2) (T := TJ2) (N := 3) (fs := [.int 0, .null, .int 0]) hx hb hts in_J2 tyJ2 tyJ2_ok hown (hts _ q68) (hts _ q69) (hts _ q36) hK.1 hR hS hA rfl (by intro j hj; rcases (show j = 0 ∨ j = 1 ∨ j = 2 by omega) with rfl | rfl | rfl <;> rfl) (Nat.le_of_ble_eq_true rfl) (Nat.le_of_ble_eq_true rfl) dX1_init_95 1 (3 + 1) okC_no (fun q H hq hz hR hS => ?_)
  obtain ⟨g, hgq, hgo, hR⟩ := k_new (enF := fun g => xen E C g h (sI 1)) (fun g9 h9 => xenC_al (by decide) h9) hR
  have hg := (hgo 0 0 (fun z => absurd z.1 (by decide))).trans hg
  refine W.eq (g2 := F0 m 98 ls [.ref (g 1 (3 + 1)), .ref (g 1 0)]) (f0_2 hgq.symm (hgo 1 0 (fun z => absurd z.2 (by decide))).symm) ?_
  refine lv_dup hx hb dX1_init_98 rfl ?_
  refine cq_I (v := none) (As := []) (rest := [.ref (g 1 (3 + 1)), .ref (g 1 0)]) hK hZ hA hAA hS hR ⟨Or.inl ⟨rfl, rfl⟩, ge_s⟩ (jt_J2init l E C A H.size (ku_ok 1 (3 + 1) (okC (3 + 1) (decide (0 < 1)))) g (ge_en 1 (3 + 1) (.inr (5, [.int 0, .null, .int 0])) (xen E C g h (sI 1))) (3 + 1)) (fun _ h => h) ⟨hx, hb, hml, hown, hts⟩ (cwI 0 hts (lw_meth q72) rfl rfl rfl (hts _ q36) (hts _ q70) (hts _ q71) rfl (by decide +kernel) ⟨Nat.le_of_ble_eq_true rfl, Nat.le_of_ble_eq_true rfl⟩) rfl hl.1 rfl (Nat.le_of_ble_eq_true rfl) dX1_init_99 ⟨Nat.le_of_ble_eq_true rfl, Nat.le_of_ble_eq_true rfl⟩ (fun H locs hB hz hk hS => ?_)
  have hR := c_lst hB
  have hh : ∀ j, j < 1 → h 0 j = some (g 1 (3 + j)) := fun j hj => (hh j hj).trans (congrArg some (hgo 1 (3 + j) (fun z => by omega)).symm)
  refine W.eq (g2 := F0 m 102 ls [.ref (g 1 (3 + 1)), .ref (g 1 0)]) rfl ?_
  refine cq_F (v := (some (.int 1))) (As := [.ref (g 1 (3 + 1))]) (rest := []) hK hZ hA hAA hS hR (c_adP (by decide) hh) (jt_add l E C A H.size (okC (4 + 1) (decide (0 < 1))) g (xen E C g h (sI 1)) 0 1 (cI 1) (nI 1) (h 0) (g 1 (3 + 1))) (fun _ h => h) (hK.1.1 5 _ rfl).2 ⟨hx, hb, hml, hown, hts⟩ (va_cwF 1 hts (lw_F q102 q106 q108 q36 q110) rfl rfl rfl (fw_add hK) (by decide +kernel) ⟨Nat.le_of_ble_eq_true rfl, Nat.le_of_ble_eq_true rfl⟩) (kw_recv (t := 1) (i := 0) hK.1 hR (Or.inr (Or.inr (Or.inl ⟨rfl, by decide⟩))) rfl rfl) rfl hl.1 rfl (Nat.le_of_ble_eq_true rfl) dX1_init_102 ⟨Nat.le_of_ble_eq_true rfl, Nat.le_of_ble_eq_true rfl⟩ (fun H locs hB hz hk hS => ?_)
  obtain ⟨g, h, hg2, hh, hR⟩ := c_add (by decide) hh hB
  have hg := (hg2 0 0 (by decide)).trans hg
  refine W.eq (g2 := F0 m 107 ls [.int 1]) rfl ?_
  refine lv_pop hx hb dX1_init_107 rfl ?_
  refine lv_iinc (v := 2) (lv' := [(1, .int 2), (0, .ref x0)]) hx hb dX1_init_108 hl (k := 0) rfl (by decide) (by decide) rfl (fun ls hl => ?_)
  refine lv_goto (tgt := 86) hx hb dX1_init_111 (by decide) ?_
  refine lv_iload_n hx hb dX1_init_86 rfl (lv_at hl 0 rfl) ?_
  refine lv_iconst (v := 4) hx hb dX1_init_87 (by decide) ?_
  refine lv_icmp_ge (tgt := 114) hx hb dX1_init_88 (by decide) (fun h => absurd h (by decide)) (fun _ => ?_)
  refine lv_aload_n hx hb dX1_init_91 rfl (lv_at hl 1 rfl) ?_
  refine W.eq (g2 := F0 m 92 ls [.ref (g 0 0)]) (congrArg (fun a => F0 m 92 ls [.ref a]) hg.symm) ?_
  refine kw_get (C := RX1) (T := TX1) (N := 12) (v := .ref (g 1 0)) hx hb hts in_X1 hown hK.1 hR 0 0 (Or.inl ⟨rfl, rfl⟩) (show xen E C g h (sI 2) 0 0 = .inr (0, xfs g (sI 2)) from rfl) rfl 5 (by decide) (hts _ q174) (fun _ h9 => h9) rfl dX1_init_92 ?_
  refine kw_new (ci := 5) (C := RJ2) (T := TJ2) (N := 3) (fs := [.int 0, .null, .int 0]) hx hb hts in_J2 tyJ2 tyJ2_ok hown (hts _ q68) (hts _ q69) (hts _ q36) hK.1 hR hS hA rfl (by intro j hj; rcases (show j = 0 ∨ j = 1 ∨ j = 2 by omega) with rfl | rfl | rfl <;> rfl) (Nat.le_of_ble_eq_true rfl) (Nat.le_of_ble_eq_true rfl) dX1_init_95 1 (3 + 2) okC_no (fun q H hq hz hR hS => ?_)
  obtain ⟨g, hgq, hgo, hR⟩ := k_new (enF := fun g => xen E C g h (sI 2)) (fun g9 h9 => xenC_al (by decide) h9) hR
  have hg := (hgo 0 0 (fun z => absurd z.1 (by decide))).trans hg
  refine W.eq (g2 := F0 m 98 ls [.ref (g 1 (3 + 2)), .ref (g 1 0)]) (f0_2 hgq.symm (hgo 1 0 (fun z => absurd z.2 (by decide))).symm) ?_
  refine lv_dup hx hb dX1_init_98 rfl ?_
  refine cq_I (v := none) (As := []) (rest := [.ref (g 1 (3 + 2)), .ref (g 1 0)]) hK hZ hA hAA hS hR ⟨Or.inl ⟨rfl, rfl⟩, ge_s⟩ (jt_J2init l E C A H.size (ku_ok 1 (3 + 2) (okC (3 + 2) (decide (0 < 2)))) g (ge_en 1 (3 + 2) (.inr (5, [.int 0, .null, .int 0])) (xen E C g h (sI 2))) (3 + 2)) (fun _ h => h) ⟨hx, hb, hml, hown, hts⟩ (cwI 0 hts (lw_meth q72) rfl rfl rfl (hts _ q36) (hts _ q70) (hts _ q71) rfl (by decide +kernel) ⟨Nat.le_of_ble_eq_true rfl, Nat.le_of_ble_eq_true rfl⟩) rfl hl.1 rfl (Nat.le_of_ble_eq_true rfl) dX1_init_99 ⟨Nat.le_of_ble_eq_true rfl, Nat.le_of_ble_eq_true rfl⟩ (fun H locs hB hz hk hS => ?_)
  have hR := c_lst hB
  have hh : ∀ j, j < 2 → h 0 j = some (g 1 (3 + j)) := fun j hj => (hh j hj).trans (congrArg some (hgo 1 (3 + j) (fun z => by omega)).symm)
  refine W.eq (g2 := F0 m 102 ls [.ref (g 1 (3 + 2)), .ref (g 1 0)]) rfl ?_
  refine cq_F (v := (some (.int 1))) (As := [.ref (g 1 (3 + 2))]) (rest := []) hK hZ hA hAA hS hR (c_adP (by decide) hh) (jt_add l E C A H.size (okC (4 + 2) (decide (0 < 2))) g (xen E C g h (sI 2)) 0 2 (cI 2) (nI 2) (h 0) (g 1 (3 + 2))) (fun _ h => h) (hK.1.1 5 _ rfl).2 ⟨hx, hb, hml, hown, hts⟩ (va_cwF 1 hts (lw_F q102 q106 q108 q36 q110) rfl rfl rfl (fw_add hK) (by decide +kernel) ⟨Nat.le_of_ble_eq_true rfl, Nat.le_of_ble_eq_true rfl⟩) (kw_recv (t := 1) (i := 0) hK.1 hR (Or.inr (Or.inr (Or.inl ⟨rfl, by decide⟩))) rfl rfl) rfl hl.1 rfl (Nat.le_of_ble_eq_true rfl) dX1_init_102 ⟨Nat.le_of_ble_eq_true rfl, Nat.le_of_ble_eq_true rfl⟩ (fun H locs hB hz hk hS => ?_)
  obtain ⟨g, h, hg2, hh, hR⟩ := c_add (by decide) hh hB
  have hg := (hg2 0 0 (by decide)).trans hg
  refine W.eq (g2 := F0 m 107 ls [.int 1]) rfl ?_
  refine lv_pop hx hb dX1_init_107 rfl ?_
  refine lv_iinc (v := 3) (lv' := [(1, .int 3), (0, .ref x0)]) hx hb dX1_init_108 hl (k := 0) rfl (by decide) (by decide) rfl (fun ls hl => ?_)
  refine lv_goto (tgt := 86) hx hb dX1_init_111 (by decide) ?_
  refine lv_iload_n hx hb dX1_init_86 rfl (lv_at hl 0 rfl) ?_
  refine lv_iconst (v := 4) hx hb dX1_init_87 (by decide) ?_
  refine lv_icmp_ge (tgt := 114) hx hb dX1_init_88 (by decide) (fun h => absurd h (by decide)) (fun _ => ?_)
  refine lv_aload_n hx hb dX1_init_91 rfl (lv_at hl 1 rfl) ?_
  refine W.eq (g2 := F0 m 92 ls [.ref (g 0 0)]) (congrArg (fun a => F0 m 92 ls [.ref a]) hg.symm) ?_
  refine kw_get (C := RX1) (T := TX1) (N := 12) (v := .ref (g 1 0)) hx hb hts in_X1 hown hK.1 hR 0 0 (Or.inl ⟨rfl, rfl⟩) (show xen E C g h (sI 3) 0 0 = .inr (0, xfs g (sI 3)) from rfl) rfl 5 (by decide) (hts _ q174) (fun _ h9 => h9) rfl dX1_init_92 ?_
  refine kw_new (ci := 5) (C := RJ2) (T := TJ2) (N := 3) (fs := [.int 0, .null, .int 0]) hx hb hts in_J2 tyJ2 tyJ2_ok hown (hts _ q68) (hts _ q69) (hts _ q36) hK.1 hR hS hA rfl (by intro j hj; rcases (show j = 0 ∨ j = 1 ∨ j = 2 by omega) with rfl | rfl | rfl <;> rfl) (Nat.le_of_ble_eq_true rfl) (Nat.le_of_ble_eq_true rfl) dX1_init_95 1 (3 + 3) okC_no (fun q H hq hz hR hS => ?_)
  obtain ⟨g, hgq, hgo, hR⟩ := k_new (enF := fun g => xen E C g h (sI 3)) (fun g9 h9 => xenC_al (by decide) h9) hR
  have hg := (hgo 0 0 (fun z => absurd z.1 (by decide))).trans hg
  refine W.eq (g2 := F0 m 98 ls [.ref (g 1 (3 + 3)), .ref (g 1 0)]) (f0_2 hgq.symm (hgo 1 0 (fun z => absurd z.2 (by decide))).symm) ?_
  refine lv_dup hx hb dX1_init_98 rfl ?_
  refine cq_I (v := none) (As := []) (rest := [.ref (g 1 (3 + 3)), .ref (g 1 0)]) hK hZ hA hAA hS hR ⟨Or.inl ⟨rfl, rfl⟩, ge_s⟩ (jt_J2init l E C A H.size (ku_ok 1 (3 + 3) (okC (3 + 3) (decide (0 < 3)))) g (ge_en 1 (3 + 3) (.inr (5, [.int 0, .null, .int 0])) (xen E C g h (sI 3))) (3 + 3)) (fun _ h => h) ⟨hx, hb, hml, hown, hts⟩ (cwI 0 hts (lw_meth q72) rfl rfl rfl (hts _ q36) (hts _ q70) (hts _ q71) rfl (by decide +kernel) ⟨Nat.le_of_ble_eq_true rfl, Nat.le_of_ble_eq_true rfl⟩) rfl hl.1 rfl (Nat.le_of_ble_eq_true rfl) dX1_init_99 ⟨Nat.le_of_ble_eq_true rfl, Nat.le_of_ble_eq_true rfl⟩ (fun H locs hB hz hk hS => ?_)
  have hR := c_lst hB
  have hh : ∀ j, j < 3 → h 0 j = some (g 1 (3 + j)) := fun j hj => (hh j hj).trans (congrArg some (hgo 1 (3 + j) (fun z => by omega)).symm)
  refine W.eq (g2 := F0 m 102 ls [.ref (g 1 (3 + 3)), .ref (g 1 0)]) rfl ?_
  refine cq_F (v := (some (.int 1))) (As := [.ref (g 1 (3 + 3))]) (rest := []) hK hZ hA hAA hS hR (c_adP (by decide) hh) (jt_add l E C A H.size (okC (4 + 3) (decide (0 < 3))) g (xen E C g h (sI 3)) 0 3 (cI 3) (nI 3) (h 0) (g 1 (3 + 3))) (fun _ h => h) (hK.1.1 5 _ rfl).2 ⟨hx, hb, hml, hown, hts⟩ (va_cwF 1 hts (lw_F q102 q106 q108 q36 q110) rfl rfl rfl (fw_add hK) (by decide +kernel) ⟨Nat.le_of_ble_eq_true rfl, Nat.le_of_ble_eq_true rfl⟩) (kw_recv (t := 1) (i := 0) hK.1 hR (Or.inr (Or.inr (Or.inl ⟨rfl, by decide⟩))) rfl rfl) rfl hl.1 rfl (Nat.le_of_ble_eq_true rfl) dX1_init_102 ⟨Nat.le_of_ble_eq_true rfl, Nat.le_of_ble_eq_true rfl⟩ (fun H locs hB hz hk hS => ?_)
  obtain ⟨g, h, hg2, hh, hR⟩ := c_add (by decide) hh hB
  have hg := (hg2 0 0 (by decide)).trans hg
  refine W.eq (g2 := F0 m 107 ls [.int 1]) rfl ?_
  refine lv_pop hx hb dX1_init_107 rfl ?_
  refine lv_iinc (v := 4) (lv' := [(1, .int 4), (0, .ref x0)]) hx hb dX1_init_108 hl (k := 0) rfl (by decide) (by decide) rfl (fun ls hl => ?_)
  refine lv_goto (tgt := 86) hx hb dX1_init_111 (by decide) ?_
  refine lv_iload_n hx hb dX1_init_86 rfl (lv_at hl 0 rfl) ?_
  refine lv_iconst (v := 4) hx hb dX1_init_87 (by decide) ?_
  refine lv_icmp_ge (tgt := 114) hx hb dX1_init_88 (by decide) (fun _ => ?_) (fun h => absurd (by decide) h)
  have hE := x_init hh hR
  refine W.widen (k := 15) (n := 79) (Nat.le_of_ble_eq_true rfl) (Nat.le_of_ble_eq_true rfl) ?_
  exact W.vret hx hb hr (fun t ht hW => ⟨⟨rfl, g, h, hg, hE.1, by rw [ht]; exact hE.2⟩, hS.F ht⟩) hS.2.2 dX1_init_114
