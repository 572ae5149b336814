set_option maxHeartbeats 2000000 in
set_option maxRecDepth 100000 in
theorem xt_come (l : Launch) (E : en_T) (C : ex_C) (A : Nat → Prop) (sz : Nat) (g : kw_A) (h : xh_T) (S : gs_T) (i : Nat) (p1 : Int32) : Met l yX3_come (ws_ yX3_come cX3_come 2 none) { frames := 7, cells := 2, slots := 20, locals := 241 } (cpc E C A sz [.ref (g 3 i), .int p1] (xw E C g h S A) (xi_ok S ∧ xh C g h S ∧ i < nz S 1)) (cq_Q none (fun H => ∃ (g' : kw_A) (h' : xh_T), (∀ u j, u ≠ 2 → u ≠ 5 → g' u j = g u j) ∧ xh C g' h' (xc_come S i p1) ∧ xw E C g' h' (xc_come S i p1) A H) A) 2 20 A := by
  refine cq_start (by decide) (Nat.le_of_ble_eq_true rfl) ?_
  intro p e s m below meth c ls hx hb hr hlocks hml hown hnm hts hsz hK hZ hA hR hP hl
  subst hsz
  have hAA : ∀ a, A a → A a := fun _ h => h
  have hl : lv_has ls 2 [(0, .ref (g 3 i)), (1, .int p1)] := hl
  have hS : va_S A s.heap s.heap [] := va_S.rf
  have hZr := hZ
  obtain ⟨hI, hh, h_i⟩ := hP
  refine lv_aload_n hx hb dX3_come_0 rfl (lv_at hl 0 rfl) ?_
  refine lv_iload_n hx hb dX3_come_1 rfl (lv_at hl 1 rfl) ?_
  refine kw_put (C := RX3) (T := TX3) (N := 15) hx hb hts in_X3 tyX3 tyX3_ok nmX3 hown hK.1 hR hS 3 i h_i rfl rfl 9 (by decide) (hts _ q540) (fun _ h9 => h9) (Or.inl rfl) rfl rfl rfl (Nat.le_of_ble_eq_true rfl) dX3_come_2 (xen E C g h (gs_up S 39 i p1)) (xe_f (k := 9) rfl) (xn_f (k := 9) rfl) (fun H locs hR hS => ?_)
  have hR := xw_up rfl hR
  have hh := xh_up (k := 39) (i := i) (v := p1) rfl hh
  refine lv_aload_n hx hb dX3_come_5 rfl (lv_at hl 0 rfl) ?_
  refine lv_iconst (v := 0) hx hb dX3_come_6 (by decide) ?_
  refine kw_put (C := RX3) (T := TX3) (N := 15) hx hb hts in_X3 tyX3 tyX3_ok nmX3 hown hK.1 hR hS 3 i h_i rfl rfl 6 (by decide) (hts _ q535) (fun _ h9 => h9) (Or.inl rfl) rfl rfl rfl (Nat.le_of_ble_eq_true rfl) dX3_come_7 (xen E C g h (gs_up (gs_up S 39 i p1) 36 i 0)) (xe_f (k := 6) rfl) (xn_f (k := 6) rfl) (fun H locs hR hS => ?_)
  have hR := xw_up rfl hR
  have hh := xh_up (k := 36) (i := i) (v := 0) rfl hh
  have hI := xi_up (k := 36) (i := i) (v := 0) rfl (xi_up (k := 39) (i := i) (v := p1) rfl hI)
  have h_i1 : i < nz (gs_up (gs_up S 39 i p1) 36 i 0) 1 := by rw [nz_up rfl, nz_up rfl]; exact h_i
  have hk0 : xok (gs_up (gs_up S 39 i p1) 36 i 0) = xok S := (xok_up (by decide) (by decide)).trans (xok_up (by decide) (by decide))
  generalize hS1 : (gs_up (gs_up S 39 i p1) 36 i 0) = S1 at hR hh hI h_i1 hk0
  refine lv_aload_n hx hb dX3_come_10 rfl (lv_at hl 0 rfl) ?_
  refine kw_get (C := RX3) (T := TX3) (N := 15) (v := .ref (g 1 (7 + i))) hx hb hts in_X3 hown hK.1 hR 3 i h_i1 rfl rfl 13 (by decide) (hts _ q545) (fun _ h9 => h9) rfl dX3_come_11 ?_
  refine kw_new (ci := 3) (C := RX4) (T := TX4) (N := 2) (fs := [.int 0, .int 0]) hx hb hts in_X4 tyX4 tyX4_ok hown (hts _ q504) (hts _ q505) (hts _ q57) hK.1 hR hS hA rfl (by intro j hj; rcases (show j = 0 ∨ j = 1 by omega) with rfl | rfl <;> rfl) (Nat.le_of_ble_eq_true rfl) (Nat.le_of_ble_eq_true rfl) dX3_come_14 5 (16 * i + nz S1 (7 + i)) (x_hno hI h_i1) (fun q H hq hz hR hS => ?_)
  obtain ⟨g, hgq, hgo, hgu, hh, hR⟩ := x_new hI hh (x_hno hI h_i1) (by decide) hR
  rw [← hgo 3 i h_i1] at hl
  refine W.eq (g2 := F0 m 17 ls [.ref (g 5 (16 * i + nz S1 (7 + i))), .ref (g 1 (7 + i))]) (f0_2 hgq.symm (hgo 1 (7 + i) (show 7 + i < 7 + nz S1 1 by omega)).symm) ?_
  refine lv_dup hx hb dX3_come_17 rfl ?_
  refine lv_aload_n hx hb dX3_come_18 rfl (lv_at hl 0 rfl) ?_
  refine kw_get (C := RX3) (T := TX3) (N := 15) (v := .ref (g 0 0)) hx hb hts in_X3 hown hK.1 hR 3 i (Or.inr h_i1) (ge_n (fun w => absurd w.1 (by decide))) rfl 14 (by decide) (hts _ q547) (fun _ h9 => h9) rfl dX3_come_19 ?_
  refine kw_getN (C := RX1) (T := TX1) (N := 12) (v := .int (S1 0 0)) hx hb hts in_X1 hown hK.1 hR 0 0 (Or.inr rfl) (ge_n (fun w => absurd w.1 (by decide))) rfl 0 (by decide) (va_Nw.use rfl (hK.2.1 _ q166 rfl)) (fun _ h9 => h9) rfl dX3_come_22 ?_
  refine lv_iload_n hx hb dX3_come_25 rfl (lv_at hl 1 rfl) ?_
  refine cq_IN (v := none) (As := [.int (S1 0 0), .int p1]) (rest := [.ref (g 5 (16 * i + nz S1 (7 + i))), .ref (g 1 (7 + i))]) hK hZ hA hAA hS hR ⟨Or.inl ⟨rfl, rfl⟩, ge_s⟩ (xt_handInit l E C A H.size (ku_ok 5 (16 * i + nz S1 (7 + i)) (xok S1)) g (ge_en 5 (16 * i + nz S1 (7 + i)) (.inr (3, [.int 0, .int 0])) (xen E C g h S1)) (16 * i + nz S1 (7 + i)) (S1 0 0) p1) (fun _ h => h) ⟨hx, hb, hml, hown, hts⟩ ⟨va_cnB 2 hts (lw_meth q508) rfl rfl rfl (hK.2.1 _ q506 rfl) (hts _ q57) (by decide +kernel) ⟨Nat.le_of_ble_eq_true rfl, Nat.le_of_ble_eq_true rfl⟩, rfl, (hts _ q507)⟩ rfl hl.1 rfl (Nat.le_of_ble_eq_true rfl) dX3_come_26 ⟨Nat.le_of_ble_eq_true rfl, Nat.le_of_ble_eq_true rfl⟩ (fun H locs hB hz hk hS => ?_)
  have hR := hB
  rw [ge_ge] at hR
  have hn12 := Nat.lt_succ_of_le (xs_hz (d := 0) (r := 0) hI h_i1).2.2.2.2.2
  refine W.eq (g2 := F0 m 29 ls [.ref (g 5 (16 * i + nz S1 (7 + i))), .ref (g 1 (7 + i))]) rfl ?_
  refine cq_F (v := (some (.int 1))) (As := [.ref (g 5 (16 * i + nz S1 (7 + i)))]) (rest := []) hK hZ hA hAA hS hR (xg_ad hI hh (show 7 + i < 7 + nz S1 1 by omega) (ku_9 xok_9 (by decide)) (fun u j ho => ⟨Or.inr ho, rfl, ge_n (fun w => x_hno hI h_i1 (by obtain ⟨rfl, rfl⟩ := w; exact ho))⟩) (Or.inl ⟨5, _, 3, _, Or.inl ⟨rfl, rfl⟩, rfl, ge_s, by simp⟩)) (jt_add l E C A H.size (ku_ok 5 (16 * i + nz S1 (7 + i)) (xok S1)) g (ge_en 5 (16 * i + nz S1 (7 + i)) (.inr (3, [.int (S1 0 0), .int p1])) (xen E C g h S1)) (7 + i) (nz S1 (7 + i)) (cz S1 (7 + i)) (S1 20 (7 + i)) (h (7 + i)) (g 5 (16 * i + nz S1 (7 + i)))) (fun _ h => h) (hK.1.1 5 _ rfl).2 ⟨hx, hb, hml, hown, hts⟩ (va_cwF 1 hts (lw_F q521 q106 q108 q36 q110) rfl rfl rfl (fw_add hK) (by decide +kernel) ⟨Nat.le_of_ble_eq_true rfl, Nat.le_of_ble_eq_true rfl⟩) (kw_recv (t := 1) (i := (7 + i)) hK.1 hR (Or.inr (show 7 + i < 7 + nz S1 1 by omega)) (ge_n (fun w => absurd w.1 (by decide))) rfl) rfl hl.1 rfl (Nat.le_of_ble_eq_true rfl) dX3_come_29 ⟨Nat.le_of_ble_eq_true rfl, Nat.add_le_add_left (na_S13 hn12) 2⟩ (fun H locs hB hz hk hS => ?_)
  refine W.widen (k := 2) (n := 20) (Nat.le_of_ble_eq_true rfl) (Nat.add_le_add_left (na_S13 hn12) 2) ?_
  obtain ⟨g, h, hg2, hh, hR⟩ := x_handed hI hh h_i1 hB
  have hxz := xs_hz (d := S1 0 0) (r := p1) hI h_i1
  have h_i2 : i < nz (xc_hand S1 i (S1 0 0) p1) 1 := by rw [hxz.2.2.2.1]; exact h_i1
  rw [← hg2 3 i (by decide)] at hl
  have hgo2 := fun u j (h2 : u ≠ 2) (h5 : u ≠ 5) => (hg2 u j h2).trans (hgu u j h5)
  have hc1 : xc_come S i p1 = xc_come1 S1 i p1 := by rw [← hS1]; rfl
  generalize hS2 : xc_hand S1 i (S1 0 0) p1 = S2 at hR hh hxz h_i2
  refine W.eq (g2 := F0 m 34 ls [.int 1]) rfl ?_
  refine lv_pop hx hb dX3_come_34 rfl ?_
  refine lv_aload_n hx hb dX3_come_35 rfl (lv_at hl 0 rfl) ?_
  refine kw_get (C := RX3) (T := TX3) (N := 15) (v := .ref (g 1 (7 + i))) hx hb hts in_X3 hown hK.1 hR 3 i h_i2 rfl rfl 13 (by decide) (hts _ q545) (fun _ h9 => h9) rfl dX3_come_36 ?_
  refine cq_F (v := (some (.int (S2 21 (7 + i))))) (As := []) (rest := []) hK hZ hA hAA hS hR ⟨(Nat.add_lt_add_left h_i2 7), rfl⟩ (jt_size l E C A H.size (xok S2) g (xen E C g h S2) (7 + i) (S2 20 (7 + i)) (S2 21 (7 + i)) (.ref (if cz S2 (7 + i) = 0 then C.2.1 else g 2 (7 + i)))) (fun _ h => hA _ (Nat.le_trans hS.1 h)) (hK.1.1 5 _ rfl).2 ⟨hx, hb, hml, hown, hts⟩ (va_cwF 0 hts (lw_F q673 q392 q394 q36 q396) rfl rfl rfl (fw_size hK) (by decide +kernel) ⟨Nat.le_of_ble_eq_true rfl, Nat.le_of_ble_eq_true rfl⟩) (kw_recv (t := 1) (i := (7 + i)) hK.1 hR (Nat.add_lt_add_left h_i2 7) rfl rfl) rfl hl.1 rfl (Nat.le_of_ble_eq_true rfl) dX3_come_39 ⟨Nat.le_of_ble_eq_true rfl, Nat.le_of_ble_eq_true rfl⟩ (fun H locs hB hz hk hS => ?_)
  have hR := hR.kept (fun a _ h => hk a h (Nat.not_le.mpr h))
  refine W.eq (g2 := F0 m 44 ls [.int (S2 21 (7 + i))]) rfl ?_
  refine lv_bipush (v := 12) hx hb dX3_come_44 (by decide) ?_
  refine lv_icmp_le (tgt := 60) hx hb dX3_come_46 (by decide) (fun c_1 => ?_) (fun c_1 => ?_)
  · skip
    have hce : xc_come S i p1 = S2 := by rw [hc1, xs_come_1 (by rw [← hxz.2.1]; exact Int32.not_lt.mpr c_1) hxz.2.2.2.2.2, hS2]
    exact W.vret hx hb hr (fun t ht hW => ⟨⟨rfl, (by rw [ht, hce]; first | exact ⟨g, h, hgo2, hh, hR⟩ | (obtain ⟨g', h', a, b, c⟩ := x_shifted h_i2 hn13 (fun j hj => hxz.2.2.2.2.1 j (by rw [← hxz.2.2.2.1]; exact hj)) hh hB (by omega); exact ⟨g', h', fun u j h2 h5 => (a u j h5).trans (hgo2 u j h2 h5), b, c⟩))⟩, hS.F ht⟩) hS.2.2 dX3_come_60
  · skip
    have hc2 := xs_come_2 (S := S1) (i := i) (r := p1) (by rw [← hxz.2.1]; exact Int32.not_le.mp c_1) hxz.2.2.2.2.2
    have hn13 : nz S2 (7 + i) = 13 := by rw [hxz.1, hc2.2]
    have h21 : S2 21 (7 + i) = nI 13 := by rw [hxz.2.1, hc2.2]
    have hce : xc_come S i p1 = xc_shift S2 i := by rw [hc1, hc2.1, hS2]
    refine lv_aload_n hx hb dX3_come_49 rfl (lv_at hl 0 rfl) ?_
    refine kw_get (C := RX3) (T := TX3) (N := 15) (v := .ref (g 1 (7 + i))) hx hb hts in_X3 hown hK.1 hR 3 i h_i2 rfl rfl 13 (by decide) (hts _ q545) (fun _ h9 => h9) rfl dX3_come_50 ?_
    refine lv_iconst (v := 1) hx hb dX3_come_53 (by decide) ?_
    refine cq_F (v := (some (.ref (g 5 (16 * i + 1))))) (As := [.int 1]) (rest := []) hK hZ hA hAA hS hR (xg_rm h_i2 hn13 h21 (by omega) hxz.2.2.1.2 hh) (jt_remove l E C A H.size (xok S2) g (xen E C g h S2) (7 + i) 1 12 (cz S2 (7 + i)) (g 5 (16 * i + 1)) (S2 20 (7 + i)) (h (7 + i))) (fun _ h => h) (hK.1.1 5 _ rfl).2 ⟨hx, hb, hml, hown, hts⟩ (va_cwF 1 hts (lw_F q675 q678 q680 q36 q682) rfl rfl rfl (fw_remove hK) (by decide +kernel) ⟨Nat.le_of_ble_eq_true rfl, Nat.le_of_ble_eq_true rfl⟩) (kw_recv (t := 1) (i := (7 + i)) hK.1 hR (Nat.add_lt_add_left h_i2 7) rfl rfl) rfl hl.1 rfl (Nat.le_of_ble_eq_true rfl) dX3_come_54 ⟨Nat.le_of_ble_eq_true rfl, Nat.le_of_ble_eq_true rfl⟩ (fun H locs hB hz hk hS => ?_)
    refine W.eq (g2 := F0 m 59 ls [.ref (g 5 (16 * i + 1))]) rfl ?_
    refine lv_pop hx hb dX3_come_59 rfl ?_
    exact W.vret hx hb hr (fun t ht hW => ⟨⟨rfl, (by rw [ht, hce]; first | exact ⟨g, h, hgo2, hh, hR⟩ | (obtain ⟨g', h', a, b, c⟩ := x_shifted h_i2 hn13 (fun j hj => hxz.2.2.2.2.1 j (by rw [← hxz.2.2.2.1]; exact hj)) hh hB (by omega); exact ⟨g', h', fun u j h2 h5 => (a u j h5).trans (hgo2 u j h2 h5), b, c⟩))⟩, hS.F ht⟩) hS.2.2 dX3_come_60
