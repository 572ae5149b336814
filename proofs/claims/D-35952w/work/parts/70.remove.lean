/-! ArrayList.remove(int) of an element that is not the last -/
def rm_h (h : Nat → Option Nat) (i m : Nat) : Nat → Option Nat := va_up (va_cpy h h (i + 1) i (m - i)) m none
theorem rm_at {h : Nat → Option Nat} {i m j : Nat} (hi : i < m) (hj : j < m) : rm_h h i m j = if j < i then h j else h (j + 1) := by
  unfold rm_h va_cpy
  rw [va_up_ne _ _ (by omega)]
  by_cases c : j < i
  · rw [if_neg (by omega), if_pos c]
  · rw [if_pos (by omega), if_neg c]
    exact congrArg h (by omega)
abbrev rm_W (E : en_T) (ok : Nat → Nat → Prop) (ad : kw_A) (en : Nat → Nat → va_E) (A : Nat → Prop) (z : Nat) (mc : Int32) (i m cap : Nat) (h : Nat → Option Nat) (H : Heap) : Prop := kw E ok ad (la_en z (.inr (5, [.int (mc + 1), .ref (ad 2 z), .int (nI m)])) (aa_en z (na_x E cap (rm_h h i m)) en)) A H
abbrev rm_P (E : en_T) (C : ex_C) (ok : Nat → Nat → Prop) (ad : kw_A) (en : Nat → Nat → va_E) (z : Nat) (mc : Int32) (i m cap : Nat) (h : Nat → Option Nat) : Prop := ok 1 z ∧ en 1 z = .inr (5, [.int mc, .ref (ad 2 z), .int (nI (m + 1))]) ∧ ok 2 z ∧ en 2 z = na_x E cap h ∧ m < cap ∧ cap ≤ 1000 ∧ i < m ∧ ∀ j, j < m + 1 → ∀ y, h j = some y → le_P C ok ad en y
set_option maxHeartbeats 2000000 in
set_option maxRecDepth 100000 in
theorem jt_fastRemove (l : Launch) (E : en_T) (C : ex_C) (A : Nat → Prop) (sz : Nat) (ok : Nat → Nat → Prop) (ad : kw_A) (en : Nat → Nat → va_E) (z i m9 cap : Nat) (mc : Int32) (h : Nat → Option Nat) : Met l yJ2_fastRemove (ws_ yJ2_fastRemove cJ2_fastRemove 4 none) { frames := 1, cells := 0, slots := 0, locals := 60 } (cpc E C A sz [.ref (ad 1 z), .ref (ad 2 z), .int (nI i)] (kw E ok ad en A) (rm_P E C ok ad en z mc i m9 cap h)) (cq_Q none (rm_W E ok ad en A z mc i m9 cap h) A) 0 0 A := by
  refine cq_start (by decide) (Nat.le_of_ble_eq_true rfl) ?_
  intro p e s m below meth c ls hx hb hr hlocks hml hown hnm hts hsz hK hZ hA hR hP hl
  subst hsz
  have hAA : ∀ a, A a → A a := fun _ h => h
  have hl : lv_has ls 4 [(0, .ref (ad 1 z)), (1, .ref (ad 2 z)), (2, .int (nI i))] := hl
  have hS : va_S A s.heap s.heap [] := va_S.rf
  obtain ⟨h_o1, h_e1, h_o2, h_e2, h_m, h_c, h_i, h_l⟩ := hP
  refine lv_aload_n hx hb dJ2_fastRemove_0 rfl (lv_at hl 0 rfl) ?_
  refine lv_dup hx hb dJ2_fastRemove_1 rfl ?_
  refine kw_get (C := RJ2) (T := TJ2) (N := 3) (v := .int mc) hx hb hts in_J2 hown hK.1 hR 1 z h_o1 h_e1 rfl 0 (by decide) (hts _ q89) (u_same (hts _ q88)) rfl dJ2_fastRemove_2 ?_
  refine lv_iconst (v := 1) hx hb dJ2_fastRemove_5 (by decide) ?_
  refine lv_iadd hx hb dJ2_fastRemove_6 ?_
  refine kw_put (C := RJ2) (T := TJ2) (N := 3) hx hb hts in_J2 tyJ2 tyJ2_ok nmJ2 hown hK.1 hR hS 1 z h_o1 h_e1 rfl 0 (by decide) (hts _ q89) (u_same (hts _ q88)) (Or.inl rfl) rfl rfl rfl (Nat.le_of_ble_eq_true rfl) dJ2_fastRemove_7 (la_en z (.inr (5, [.int (mc + 1), .ref (ad 2 z), .int (nI (m9 + 1))])) en) (if_pos ⟨rfl, rfl⟩) la_hn (fun H locs hR hS => ?_)
  refine lv_aload_n hx hb dJ2_fastRemove_10 rfl (lv_at hl 0 rfl) ?_
  refine kw_get (C := RJ2) (T := TJ2) (N := 3) (v := .int (nI (m9 + 1))) hx hb hts in_J2 hown hK.1 hR 1 z h_o1 (if_pos ⟨rfl, rfl⟩) rfl 2 (by decide) (hts _ q85) (fun _ h9 => h9) rfl dJ2_fastRemove_11 ?_
  refine lv_iconst (v := 1) hx hb dJ2_fastRemove_14 (by decide) ?_
  refine lv_isub hx hb dJ2_fastRemove_15 ?_
  refine W.eq (g2 := F0 m 16 ls [.int (nI m9)]) (congrArg (fun w => F0 m 16 ls [.int w]) (lp_pred m9)) ?_
  refine lv_dup hx hb dJ2_fastRemove_16 rfl ?_
  refine lv_istore_n (lv' := [(3, .int (nI m9)), (0, .ref (ad 1 z)), (1, .ref (ad 2 z)), (2, .int (nI i))]) hx hb dJ2_fastRemove_17 rfl hl (by decide) rfl (fun ls hl => ?_)
  refine lv_iload_n hx hb dJ2_fastRemove_18 rfl (lv_at hl 3 rfl) ?_
  refine lv_icmp_le (tgt := 34) hx hb dJ2_fastRemove_19 (by decide) (fun h9 => absurd (nI_lt h_i (by omega)) (Int32.not_lt.mpr h9)) (fun _ => ?_)
  refine lv_aload_n hx hb dJ2_fastRemove_22 rfl (lv_at hl 2 rfl) ?_
  refine lv_iload_n hx hb dJ2_fastRemove_23 rfl (lv_at hl 3 rfl) ?_
  refine lv_iconst (v := 1) hx hb dJ2_fastRemove_24 (by decide) ?_
  refine lv_iadd hx hb dJ2_fastRemove_25 ?_
  refine W.eq (g2 := F0 m 26 ls [.int (nI (i + 1)), .ref (ad 2 z)]) (congrArg (fun w => F0 m 26 ls [.int w, .ref (ad 2 z)]) (nI_1 i)) ?_
  refine lv_aload_n hx hb dJ2_fastRemove_26 rfl (lv_at hl 2 rfl) ?_
  refine lv_iload_n hx hb dJ2_fastRemove_27 rfl (lv_at hl 3 rfl) ?_
  refine lv_iload_n hx hb dJ2_fastRemove_28 rfl (lv_at hl 0 rfl) ?_
  refine lv_iload_n hx hb dJ2_fastRemove_29 rfl (lv_at hl 3 rfl) ?_
  refine lv_isub hx hb dJ2_fastRemove_30 ?_
  refine W.eq (g2 := F0 m 31 ls [.int (nI (m9 - i)), .int (nI i), .ref (ad 2 z), .int (nI (i + 1)), .ref (ad 2 z)]) (congrArg (fun w => F0 m 31 ls [.int w, .int (nI i), .ref (ad 2 z), .int (nI (i + 1)), .ref (ad 2 z)]) (pk_sub (Nat.le_of_lt h_i))) ?_
  have h_e2' : la_en z (.inr (5, [.int (mc + 1), .ref (ad 2 z), .int (nI (m9 + 1))])) en 2 z = na_x E cap h := (if_neg (fun w => absurd w.1 (by decide))).trans h_e2
  refine kw_copy hx hb (hml.trans hl.1.symm) hown (hts _ q687) (hts _ q163) (hts _ q162) (hts _ q40) hK.1 hR hS 2 z 2 z h_o2 h_e2' h_o2 h_e2' (nI_pos (by omega)) (nI_pos (by omega)) (nI_pos (by omega)) ?_ ?_ ?_ (Nat.le_of_ble_eq_true rfl) (Nat.le_of_ble_eq_true rfl) dJ2_fastRemove_31 (aa_en z (na_x E cap (va_cpy h h (i + 1) i (m9 - i))) (la_en z (.inr (5, [.int (mc + 1), .ref (ad 2 z), .int (nI (m9 + 1))])) en)) ?_ aa_hn (fun H locs hR hS => ?_)
  · rw [nI_clamp (by omega), nI_clamp (by omega)]; omega
  · rw [nI_clamp (by omega), nI_clamp (by omega)]; omega
  · intro j hj y hy
    rw [nI_clamp (by omega)] at hj hy
    exact le_any hK hZ hS hR (le_la (h_l _ (by omega) y hy))
  · rw [nI_clamp (by omega), nI_clamp (by omega), nI_clamp (by omega)]; exact if_pos ⟨rfl, rfl⟩
  refine lv_aload_n hx hb dJ2_fastRemove_34 rfl (lv_at hl 2 rfl) ?_
  refine lv_aload_n hx hb dJ2_fastRemove_35 rfl (lv_at hl 1 rfl) ?_
  refine lv_iload_n hx hb dJ2_fastRemove_36 rfl (lv_at hl 0 rfl) ?_
  refine lv_dup_x1 hx hb dJ2_fastRemove_37 rfl rfl ?_
  refine kw_put (C := RJ2) (T := TJ2) (N := 3) hx hb hts in_J2 tyJ2 tyJ2_ok nmJ2 hown hK.1 hR hS 1 z h_o1 ((if_neg (fun w => absurd w.1 (by decide))).trans (if_pos ⟨rfl, rfl⟩)) rfl 2 (by decide) (hts _ q85) (fun _ h9 => h9) (Or.inl rfl) rfl rfl rfl (Nat.le_of_ble_eq_true rfl) dJ2_fastRemove_38 (la_en z (.inr (5, [.int (mc + 1), .ref (ad 2 z), .int (nI m9)])) (aa_en z (na_x E cap (va_cpy h h (i + 1) i (m9 - i))) (la_en z (.inr (5, [.int (mc + 1), .ref (ad 2 z), .int (nI (m9 + 1))])) en))) (if_pos ⟨rfl, rfl⟩) la_hn (fun H locs hR hS => ?_)
  refine lv_null hx hb dJ2_fastRemove_41 ?_
  refine kw_aastN (n := cap) hx hb hK.1 hR hS 2 z h_o2 ((if_neg (fun w => absurd w.1 (by decide))).trans (if_pos ⟨rfl, rfl⟩)) (vp_in_nI (by omega) (by omega)) dJ2_fastRemove_42 (la_en z (.inr (5, [.int (mc + 1), .ref (ad 2 z), .int (nI m9)])) (aa_en z (na_x E cap (rm_h h i m9)) en)) ?_ ?_ (fun H locs hR hS => ?_)
  · rw [nI_clamp (by omega)]; exact (if_neg (fun w => absurd w.1 (by decide))).trans (if_pos ⟨rfl, rfl⟩)
  · intro u j _ hne
    show (if _ then _ else if _ then _ else _) = (if _ then _ else if _ then _ else if _ then _ else _)
    by_cases d : u = 1 ∧ j = z
    · rw [if_pos d, if_pos d]
    · rw [if_neg d, if_neg d, if_neg hne, if_neg hne, if_neg d]
  exact W.vret hx hb hr (fun t ht hW => ⟨⟨rfl, by rw [ht]; exact hR⟩, hS.F ht⟩) hS.2.2 dJ2_fastRemove_43
set_option maxHeartbeats 2000000 in
set_option maxRecDepth 100000 in
theorem jt_remove (l : Launch) (E : en_T) (C : ex_C) (A : Nat → Prop) (sz : Nat) (ok : Nat → Nat → Prop) (ad : kw_A) (en : Nat → Nat → va_E) (z i m9 cap y : Nat) (mc : Int32) (h : Nat → Option Nat) : Met l yJ2_remove (ws_ yJ2_remove cJ2_remove 4 (some (.object "java/lang/Object"))) { frames := 3, cells := 0, slots := 0, locals := 100 } (cpc E C A sz [.ref (ad 1 z), .int (nI i)] (kw E ok ad en A) (rm_P E C ok ad en z mc i m9 cap h ∧ h i = some y)) (cq_Q (some (.ref y)) (rm_W E ok ad en A z mc i m9 cap h) A) 0 0 A := by
  refine cq_start (by decide) (Nat.le_of_ble_eq_true rfl) ?_
  intro p e s m below meth c ls hx hb hr hlocks hml hown hnm hts hsz hK hZ hA hR hP hl
  subst hsz
  have hAA : ∀ a, A a → A a := fun _ h => h
  have hl : lv_has ls 4 [(0, .ref (ad 1 z)), (1, .int (nI i))] := hl
  have hS : va_S A s.heap s.heap [] := va_S.rf
  obtain ⟨hP, h_y⟩ := hP
  have hP9 := hP
  obtain ⟨h_o1, h_e1, h_o2, h_e2, h_m, h_c, h_i, h_l⟩ := hP
  refine lv_iload_n hx hb dJ2_remove_0 rfl (lv_at hl 1 rfl) ?_
  refine lv_aload_n hx hb dJ2_remove_1 rfl (lv_at hl 0 rfl) ?_
  refine kw_get (C := RJ2) (T := TJ2) (N := 3) (v := .int (nI (m9 + 1))) hx hb hts in_J2 hown hK.1 hR 1 z h_o1 h_e1 rfl 2 (by decide) (hts _ q85) (fun _ h9 => h9) rfl dJ2_remove_2 ?_
  refine ps_calli (As := [.int (nI i), .int (nI (m9 + 1))]) (rest := []) ⟨hx, hb, hml, hown, hts⟩ (jt_chk l (nI i) (nI (m9 + 1))) (va_cwS 2 hts (lw_S q377 q378 q49 q379) rfl rfl rfl (by decide +kernel) ⟨Nat.le_of_ble_eq_true rfl, Nat.le_of_ble_eq_true rfl⟩) ⟨nI_nn (by omega), nI_lt (by omega) (by omega)⟩ hS rfl hl.1 rfl (Nat.le_of_ble_eq_true rfl) dJ2_remove_5 ⟨Nat.zero_le _, Nat.zero_le _⟩ (fun H locs hz hk hS => ?_)
  have hR := hR.kept (fun a _ h => hk a h)
  refine lv_pop hx hb dJ2_remove_8 rfl ?_
  refine lv_aload_n hx hb dJ2_remove_9 rfl (lv_at hl 0 rfl) ?_
  refine kw_get (C := RJ2) (T := TJ2) (N := 3) (v := .ref (ad 2 z)) hx hb hts in_J2 hown hK.1 hR 1 z h_o1 h_e1 rfl 1 (by decide) (hts _ q82) (fun _ h9 => h9) rfl dJ2_remove_10 ?_
  refine lv_astore_n (lv' := [(2, .ref (ad 2 z)), (0, .ref (ad 1 z)), (1, .int (nI i))]) hx hb dJ2_remove_13 rfl hl (by decide) rfl (fun ls hl => ?_)
  refine lv_aload_n hx hb dJ2_remove_14 rfl (lv_at hl 0 rfl) ?_
  refine lv_iload_n hx hb dJ2_remove_15 rfl (lv_at hl 2 rfl) ?_
  refine kw_aald (v := .ref y) hx hb hK.1 hR 2 z h_o2 h_e2 (vp_in_nI (by omega) (by omega)) (by rw [nI_clamp (by omega), h_y]; rfl) dJ2_remove_16 ?_
  refine lv_astore_n (lv' := [(3, .ref y), (2, .ref (ad 2 z)), (0, .ref (ad 1 z)), (1, .int (nI i))]) hx hb dJ2_remove_17 rfl hl (by decide) rfl (fun ls hl => ?_)
  refine lv_aload_n hx hb dJ2_remove_18 rfl (lv_at hl 2 rfl) ?_
  refine lv_aload_n hx hb dJ2_remove_19 rfl (lv_at hl 1 rfl) ?_
  refine lv_iload_n hx hb dJ2_remove_20 rfl (lv_at hl 3 rfl) ?_
  refine cq_V (v := none) (As := [.ref (ad 2 z), .int (nI i)]) (rest := []) hK hZ hA hAA hS hR hP9 (jt_fastRemove l E C A H.size ok ad en z i m9 cap mc h) (fun _ h => h) ⟨hx, hb, hml, hown, hts⟩ (cwV 2 hts (lw_V q683 q685 qs5 q36 q686) rfl rfl rfl (by decide +kernel) ⟨Nat.le_of_ble_eq_true rfl, Nat.le_of_ble_eq_true rfl⟩) (kw_recv (t := 1) (i := z) hK.1 hR h_o1 h_e1 rfl) rfl hl.1 rfl (Nat.le_of_ble_eq_true rfl) dJ2_remove_21 ⟨Nat.le_of_ble_eq_true rfl, Nat.le_of_ble_eq_true rfl⟩ (fun H locs hB hz hk hS => ?_)
  refine W.eq (g2 := F0 m 24 ls []) rfl ?_
  refine lv_aload_n hx hb dJ2_remove_24 rfl (lv_at hl 0 rfl) ?_
  exact W.aret (v := .ref y) hx hb hr (Or.inl ⟨_, rfl⟩) (Or.inr ⟨_, rfl⟩) (fun t ht hW => ⟨⟨rfl, by rw [ht]; exact hB⟩, hS.F ht⟩) hS.2.2 dJ2_remove_25
