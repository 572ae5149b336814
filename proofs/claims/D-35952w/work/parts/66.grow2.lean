set_option maxHeartbeats 2000000 in
set_option maxRecDepth 100000 in
theorem jt_newLength (l : Launch) (E : en_T) (C : ex_C) (A : Nat → Prop) (sz : Nat) (p0 p1 p2 : Int32) : Met l yJ4_newLength (ws_ yJ4_newLength cJ4_newLength 4 (some .int)) { frames := 1, cells := 0, slots := 0, locals := 40 } (cpc E C A sz [.int p0, .int p1, .int p2] (fun _ => True) (¬ (p0 + (if p1 < p2 then p2 else p1)) ≤ 0 ∧ ¬ 2147483639 < (p0 + (if p1 < p2 then p2 else p1)))) (cq_Q (some (.int (p0 + (if p1 < p2 then p2 else p1)))) (fun _ => True) (nw_A sz)) 0 0 (nw_A sz) := by
  refine cq_start (by decide) (Nat.le_of_ble_eq_true rfl) ?_
  intro p e s m below meth c ls hx hb hr hlocks hml hown hnm hts hsz hK hZ hA hR hP hl
  subst hsz
  have hAA : ∀ a, nw_A s.heap.size a → A a := hA
  have hl : lv_has ls 4 [(0, .int p0), (1, .int p1), (2, .int p2)] := hl
  have hS : va_S (nw_A s.heap.size) s.heap s.heap [] := va_S.rf
  have hZr := hZ.fresh
  obtain ⟨h_1, h_2⟩ := hP
  refine lv_iload_n hx hb dJ4_newLength_0 rfl (lv_at hl 0 rfl) ?_
  refine lv_iload_n hx hb dJ4_newLength_1 rfl (lv_at hl 1 rfl) ?_
  refine lv_iload_n hx hb dJ4_newLength_2 rfl (lv_at hl 2 rfl) ?_
  refine va_mmax hx hb (hml.trans hl.1.symm) hown (hts _ q126) (hts _ q127) (hts _ q39) (hts _ q128) (Nat.le_of_ble_eq_true rfl) (Nat.le_of_ble_eq_true rfl) (Nat.le_of_ble_eq_true rfl) (Nat.le_of_ble_eq_true rfl) dJ4_newLength_3 ?_
  refine lv_iadd hx hb dJ4_newLength_6 ?_
  refine lv_istore_n (lv' := [(3, .int (p0 + (if p1 < p2 then p2 else p1))), (0, .int p0), (1, .int p1), (2, .int p2)]) hx hb dJ4_newLength_7 rfl hl (by decide) rfl (fun ls hl => ?_)
  refine lv_iconst (v := 0) hx hb dJ4_newLength_8 (by decide) ?_
  refine lv_iload_n hx hb dJ4_newLength_9 rfl (lv_at hl 0 rfl) ?_
  refine lv_icmp_ge (tgt := 21) hx hb dJ4_newLength_10 (by decide) (fun c_1 => absurd c_1 h_1) (fun c_1 => ?_)
  refine lv_iload_n hx hb dJ4_newLength_13 rfl (lv_at hl 0 rfl) ?_
  refine lv_ldc (v := 2147483639) hx hb hown (hts _ q129) dJ4_newLength_14 ?_
  refine lv_icmp_gt (tgt := 21) hx hb dJ4_newLength_16 (by decide) (fun c_2 => absurd c_2 h_2) (fun c_2 => ?_)
  refine lv_iload_n hx hb dJ4_newLength_19 rfl (lv_at hl 0 rfl) ?_
  exact W.iret (v := (p0 + (if p1 < p2 then p2 else p1))) hx hb hr (fun t ht hW => ⟨⟨rfl, trivial⟩, hS.F ht⟩) hS.2.2 dJ4_newLength_20
def na_m (cap : Nat) : Nat := if cap = 0 then 10 else cap + max 1 (cap / 2)
abbrev na_L (cap : Nat) : Int32 := (nI cap) + (if (nI (cap + 1) - nI cap) < ((nI cap) >>> ((1 : Int32) &&& 31)) then ((nI cap) >>> ((1 : Int32) &&& 31)) else (nI (cap + 1) - nI cap))
theorem na_Lm : ∀ cap, cap < 41 → 0 < cap → na_L cap = nI (na_m cap) ∧ ¬ na_L cap ≤ 0 ∧ ¬ 2147483639 < na_L cap ∧ cap ≤ na_m cap ∧ na_m cap ≤ 1000 := by decide +kernel
def la_en (z : Nat) (x : va_E) (en : Nat → Nat → va_E) : Nat → Nat → va_E := fun u j => if u = 1 ∧ j = z then x else en u j
theorem la_hn {ok : Nat → Nat → Prop} {z : Nat} {x : va_E} {en : Nat → Nat → va_E} : ∀ u j, ok u j → ¬ (u = 1 ∧ j = z) → la_en z x en u j = en u j := fun _ _ _ h => if_neg h
abbrev gr_W (E : en_T) (ok : Nat → Nat → Prop) (ad : kw_A) (en : Nat → Nat → va_E) (A : Nat → Prop) (z : Nat) (mc : Int32) (n m : Nat) (h : Nat → Option Nat) (q : Nat) (H : Heap) : Prop := kw E (nk_ok ok) (nk_ad q ad) (nk_en (na_x E m h) (la_en z (.inr (5, [.int mc, .ref q, .int (nI n)])) en)) A H
set_option maxHeartbeats 2000000 in
set_option maxRecDepth 100000 in
theorem jt_grow2_0 (l : Launch) (E : en_T) (C : ex_C) (A : Nat → Prop) (sz : Nat) (ok : Nat → Nat → Prop) (ad : kw_A) (en : Nat → Nat → va_E) (z : Nat) (mc : Int32) : Met l yJ2_grow_2 (ws_ yJ2_grow_2 cJ2_grow_2 4 (some (.array (.object "java/lang/Object")))) { frames := 3, cells := 1, slots := na_m 0, locals := 130 } (cpc E C A sz [.ref (ad 1 z), .int (nI 1)] (kw E ok ad en A) ((∀ j, ¬ ok 9 j) ∧ ok 1 z ∧ en 1 z = .inr (5, [.int mc, .ref C.2.1, .int (nI 0)]))) (cq_E (fun a H => gr_W E ok ad en A z mc 0 (na_m 0) (fun _ => none) a H) A) 1 (na_m 0) A := by
  refine cq_start (by decide) (Nat.le_of_ble_eq_true rfl) ?_
  intro p e s m below meth c ls hx hb hr hlocks hml hown hnm hts hsz hK hZ hA hR hP hl
  subst hsz
  have hl : lv_has ls 4 [(0, .ref (ad 1 z)), (1, .int (nI 1))] := hl
  have hS : va_S A s.heap s.heap [] := va_S.rf
  obtain ⟨h_9, h_o1, h_e1⟩ := hP
  refine lv_aload_n hx hb dJ2_grow_2_0 rfl (lv_at hl 0 rfl) ?_
  refine kw_get (C := RJ2) (T := TJ2) (N := 3) (v := .ref C.2.1) hx hb hts in_J2 hown hK.1 hR 1 z h_o1 h_e1 rfl 1 (by decide) (hts _ q82) (fun _ h9 => h9) rfl dJ2_grow_2_1 ?_
  refine va_tlen (v := 0) hx hb hZ.2.2.2.2.2.1 hS rfl dJ2_grow_2_4 ?_
  refine lv_istore_n (lv' := [(2, .int 0), (0, .ref (ad 1 z)), (1, .int (nI 1))]) hx hb dJ2_grow_2_5 rfl hl (by decide) rfl (fun ls hl => ?_)
  refine lv_iload_n hx hb dJ2_grow_2_6 rfl (lv_at hl 0 rfl) ?_
  refine lv_if_gt (tgt := 20) hx hb dJ2_grow_2_7 (by decide) (fun h => absurd h (by decide)) (fun _ => ?_)
  refine lv_aload_n hx hb dJ2_grow_2_10 rfl (lv_at hl 1 rfl) ?_
  refine kw_get (C := RJ2) (T := TJ2) (N := 3) (v := .ref C.2.1) hx hb hts in_J2 hown hK.1 hR 1 z h_o1 h_e1 rfl 1 (by decide) (hts _ q82) (fun _ h9 => h9) rfl dJ2_grow_2_11 ?_
  refine va_gets (v := .ref C.2.1) hx hb hZ.2.2.2.2.1 hS hown (hts _ q80) (fun _ h9 => h9) dJ2_grow_2_14 ?_
  refine lv_acmp_eq (rx := some C.2.1) (ry := some C.2.1) (tgt := 45) hx hb dJ2_grow_2_17 (by decide) (fun _ => ?_) (fun h => absurd rfl h)
  refine lv_aload_n hx hb dJ2_grow_2_45 rfl (lv_at hl 1 rfl) ?_
  refine lv_bipush (v := 10) hx hb dJ2_grow_2_46 (by decide) ?_
  refine lv_iload_n hx hb dJ2_grow_2_48 rfl (lv_at hl 2 rfl) ?_
  refine va_mmax hx hb (hml.trans hl.1.symm) hown (hts _ q164) (hts _ q127) (hts _ q39) (hts _ q128) (Nat.le_of_ble_eq_true rfl) (Nat.le_of_ble_eq_true rfl) (Nat.le_of_ble_eq_true rfl) (Nat.le_of_ble_eq_true rfl) dJ2_grow_2_49 ?_
  refine W.eq (g2 := F0 m 52 ls [.int 10, .ref (ad 1 z)]) (congrArg (fun w => F0 m 52 ls [.int w, .ref (ad 1 z)]) (if_neg (by decide))) ?_
  refine kw_anew (N' := na_m 0) hx hb hown (hts _ q165) hK.2.2.2.1 hK.1 hR hS hA (by decide) (by decide) (by decide) (Nat.le_of_ble_eq_true rfl) (Nat.le_of_ble_eq_true rfl) dJ2_grow_2_52 (fun q H hR hS => ?_)
  refine lv_dup_x1 hx hb dJ2_grow_2_55 rfl rfl ?_
  refine kw_put (C := RJ2) (T := TJ2) (N := 3) hx hb hts in_J2 tyJ2 tyJ2_ok nmJ2 hown hK.1 hR hS 1 z h_o1 h_e1 rfl 1 (by decide) (hts _ q82) (fun _ h9 => h9) (Or.inl rfl) rfl rfl rfl (Nat.le_of_ble_eq_true rfl) dJ2_grow_2_56 (nk_en (na_x E (na_m 0) (fun _ => none)) (la_en z (.inr (5, [.int mc, .ref q, .int (nI 0)])) en)) (if_pos ⟨rfl, rfl⟩) (nk_hc la_hn) (fun H locs hR hS => ?_)
  exact W.aret (v := .ref q) hx hb hr (Or.inr ⟨_, rfl⟩) (Or.inr ⟨_, rfl⟩) (fun t ht hW => ⟨⟨q, rfl, by rw [ht]; exact hR⟩, hS.F ht⟩) hS.2.2 dJ2_grow_2_59
set_option maxHeartbeats 2000000 in
set_option maxRecDepth 100000 in
theorem jt_grow2_1 (l : Launch) (E : en_T) (C : ex_C) (A : Nat → Prop) (sz : Nat) (ok : Nat → Nat → Prop) (ad : kw_A) (en : Nat → Nat → va_E) (z cap : Nat) (mc : Int32) (h : Nat → Option Nat) : Met l yJ2_grow_2 (ws_ yJ2_grow_2 cJ2_grow_2 4 (some (.array (.object "java/lang/Object")))) { frames := 3, cells := 1, slots := na_m cap, locals := 130 } (cpc E C A sz [.ref (ad 1 z), .int (nI (cap + 1))] (kw E ok ad en A) ((∀ j, ¬ ok 9 j) ∧ ok 1 z ∧ en 1 z = .inr (5, [.int mc, .ref (ad 2 z), .int (nI cap)]) ∧ ok 2 z ∧ en 2 z = na_x E cap h ∧ 0 < cap ∧ cap < 41 ∧ ∀ j, j < cap → ∀ y, h j = some y → le_P C ok ad en y)) (cq_E (fun a H => gr_W E ok ad en A z mc cap (na_m cap) (na_c cap h) a H) A) 1 (na_m cap) A := by
  refine cq_start (by decide) (Nat.le_of_ble_eq_true rfl) ?_
  intro p e s m below meth c ls hx hb hr hlocks hml hown hnm hts hsz hK hZ hA hR hP hl
  subst hsz
  have hAA : ∀ a, A a → A a := fun _ h => h
  have hl : lv_has ls 4 [(0, .ref (ad 1 z)), (1, .int (nI (cap + 1)))] := hl
  have hS : va_S A s.heap s.heap [] := va_S.rf
  obtain ⟨h_9, h_o1, h_e1, h_o2, h_e2, h_0, h_c, h_l⟩ := hP
  obtain ⟨m1, m2, m3, m4, m5⟩ := na_Lm cap h_c h_0
  refine lv_aload_n hx hb dJ2_grow_2_0 rfl (lv_at hl 0 rfl) ?_
  refine kw_get (C := RJ2) (T := TJ2) (N := 3) (v := .ref (ad 2 z)) hx hb hts in_J2 hown hK.1 hR 1 z h_o1 h_e1 rfl 1 (by decide) (hts _ q82) (fun _ h9 => h9) rfl dJ2_grow_2_1 ?_
  refine kw_alen (v := nI cap) hx hb hK.1 hR 2 z h_o2 (Or.inl h_e2) rfl dJ2_grow_2_4 ?_
  refine lv_istore_n (lv' := [(2, .int (nI cap)), (0, .ref (ad 1 z)), (1, .int (nI (cap + 1)))]) hx hb dJ2_grow_2_5 rfl hl (by decide) rfl (fun ls hl => ?_)
  refine lv_iload_n hx hb dJ2_grow_2_6 rfl (lv_at hl 0 rfl) ?_
  refine lv_if_gt (tgt := 20) hx hb dJ2_grow_2_7 (by decide) (fun _ => ?_) (fun h9 => absurd (nI_lt h_0 (by omega)) h9)
  refine lv_iload_n hx hb dJ2_grow_2_20 rfl (lv_at hl 0 rfl) ?_
  refine lv_iload_n hx hb dJ2_grow_2_21 rfl (lv_at hl 2 rfl) ?_
  refine lv_iload_n hx hb dJ2_grow_2_22 rfl (lv_at hl 0 rfl) ?_
  refine lv_isub hx hb dJ2_grow_2_23 ?_
  refine lv_iload_n hx hb dJ2_grow_2_24 rfl (lv_at hl 0 rfl) ?_
  refine lv_iconst (v := 1) hx hb dJ2_grow_2_25 (by decide) ?_
  refine lv_ishr hx hb dJ2_grow_2_26 ?_
  refine cq_S (v := some (.int (na_L cap))) (As := [.int (nI cap), .int (nI (cap + 1) - nI cap), .int ((nI cap) >>> ((1 : Int32) &&& 31))]) (rest := []) hK hZ hA hAA hS trivial ⟨m2, m3⟩ (jt_newLength l E C A s.heap.size (nI cap) (nI (cap + 1) - nI cap) ((nI cap) >>> ((1 : Int32) &&& 31))) (fun _ h => hA _ (Nat.le_trans hS.1 h)) ⟨hx, hb, hml, hown, hts⟩ (va_cwS 3 hts (lw_S q123 q124 q38 q125) rfl rfl rfl (by decide +kernel) ⟨Nat.le_of_ble_eq_true rfl, Nat.le_of_ble_eq_true rfl⟩) rfl hl.1 rfl (Nat.le_of_ble_eq_true rfl) dJ2_grow_2_27 ⟨Nat.le_of_ble_eq_true rfl, Nat.zero_le _⟩ (fun H locs hB hz hk hS => ?_)
  have hR := hR.kept (fun a _ h => hk a h (Nat.not_le.mpr h))
  refine W.eq (g2 := F0 m 30 ls [.int (nI (na_m cap))]) (congrArg (fun w => F0 m 30 ls [.int w]) m1) ?_
  refine lv_istore_n (lv' := [(3, .int (nI (na_m cap))), (2, .int (nI cap)), (0, .ref (ad 1 z)), (1, .int (nI (cap + 1)))]) hx hb dJ2_grow_2_30 rfl hl (by decide) rfl (fun ls hl => ?_)
  refine lv_aload_n hx hb dJ2_grow_2_31 rfl (lv_at hl 2 rfl) ?_
  refine lv_aload_n hx hb dJ2_grow_2_32 rfl (lv_at hl 2 rfl) ?_
  refine kw_get (C := RJ2) (T := TJ2) (N := 3) (v := .ref (ad 2 z)) hx hb hts in_J2 hown hK.1 hR 1 z h_o1 h_e1 rfl 1 (by decide) (hts _ q82) (fun _ h9 => h9) rfl dJ2_grow_2_33 ?_
  refine lv_iload_n hx hb dJ2_grow_2_36 rfl (lv_at hl 0 rfl) ?_
  refine cq_SE (As := [.ref (ad 2 z), .int (nI (na_m cap))]) (rest := [.ref (ad 1 z)]) hK hZ hA hAA hS hR ⟨h_9, h_o2, h_e2, m4, m5, h_l⟩ (jt_copyOf l E C A H.size ok ad en z cap (na_m cap) h) (fun _ h => h) ⟨hx, hb, hml, hown, hts⟩ (va_cwS 2 hts (lw_S q133 q134 q37 q135) rfl rfl rfl (by decide +kernel) ⟨Nat.le_of_ble_eq_true rfl, Nat.le_of_ble_eq_true rfl⟩) rfl hl.1 rfl (Nat.le_of_ble_eq_true rfl) dJ2_grow_2_37 ⟨Nat.le_of_ble_eq_true rfl, Nat.le_of_eq (Nat.zero_add _)⟩ (fun q H locs hR hz hk hS => ?_)
  refine lv_dup_x1 hx hb dJ2_grow_2_40 rfl rfl ?_
  refine kw_put (C := RJ2) (T := TJ2) (N := 3) hx hb hts in_J2 tyJ2 tyJ2_ok nmJ2 hown hK.1 hR hS 1 z h_o1 h_e1 rfl 1 (by decide) (hts _ q82) (fun _ h9 => h9) (Or.inl rfl) rfl rfl rfl (Nat.le_of_ble_eq_true rfl) dJ2_grow_2_41 (nk_en (na_x E (na_m cap) (na_c cap h)) (la_en z (.inr (5, [.int mc, .ref q, .int (nI cap)])) en)) (if_pos ⟨rfl, rfl⟩) (nk_hc la_hn) (fun H locs hR hS => ?_)
  refine W.widen (k := 1) (n := na_m cap) (Nat.le_of_ble_eq_true rfl) (Nat.le_of_eq (Nat.zero_add _)) ?_
  exact W.aret (v := .ref q) hx hb hr (Or.inr ⟨_, rfl⟩) (Or.inr ⟨_, rfl⟩) (fun t ht hW => ⟨⟨q, rfl, by rw [ht]; exact hR⟩, hS.F ht⟩) hS.2.2 dJ2_grow_2_44
