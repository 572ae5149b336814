/-! ArrayList.add(Object) -/
theorem na_la {z : Nat} {l l' x : va_E} {en : Nat → Nat → va_E} : na_en z l x (la_en z l' en) = na_en z l x en := by
  funext u j
  show (if _ then _ else if _ then _ else if _ then _ else _) = (if _ then _ else if _ then _ else _)
  by_cases c : u = 2 ∧ j = z
  · rw [if_pos c, if_pos c]
  · rw [if_neg c, if_neg c]
    by_cases d : u = 1 ∧ j = z
    · rw [if_pos d, if_pos d]
    · rw [if_neg d, if_neg d, if_neg d]
set_option maxHeartbeats 2000000 in
set_option maxRecDepth 100000 in
theorem jt_add (l : Launch) (E : en_T) (C : ex_C) (A : Nat → Prop) (sz : Nat) (ok : Nat → Nat → Prop) (ad : kw_A) (en : Nat → Nat → va_E) (z n cap : Nat) (mc : Int32) (h : Nat → Option Nat) (v : Nat) : Met l yJ2_add (ws_ yJ2_add cJ2_add 2 (some .boolean)) { frames := 6, cells := 1, slots := na_S n cap, locals := 220 } (cpc E C A sz [.ref (ad 1 z), .ref v] (kw E ok ad en A) (ad_P E C ok ad en z mc n cap h v)) (cq_Q (some (.int 1)) (ad_W E ok ad en A z (mc + 1) n cap h v) A) 1 (na_S n cap) A := by
  refine cq_start (by decide) (Nat.le_of_ble_eq_true rfl) ?_
  intro p e s m below meth c ls hx hb hr hlocks hml hown hnm hts hsz hK hZ hA hR hP hl
  subst hsz
  have hAA : ∀ a, A a → A a := fun _ h => h
  have hl : lv_has ls 2 [(0, .ref (ad 1 z)), (1, .ref v)] := hl
  have hS : va_S A s.heap s.heap [] := va_S.rf
  obtain ⟨h_9, h_o1, h_e1, h_2, h_n, h_c, h_l, h_v⟩ := hP
  refine lv_aload_n hx hb dJ2_add_0 rfl (lv_at hl 0 rfl) ?_
  refine lv_dup hx hb dJ2_add_1 rfl ?_
  refine kw_get (C := RJ2) (T := TJ2) (N := 3) (v := .int mc) hx hb hts in_J2 hown hK.1 hR 1 z h_o1 h_e1 rfl 0 (by decide) (hts _ q89) (u_same (hts _ q88)) rfl dJ2_add_2 ?_
  refine lv_iconst (v := 1) hx hb dJ2_add_5 (by decide) ?_
  refine lv_iadd hx hb dJ2_add_6 ?_
  refine kw_put (C := RJ2) (T := TJ2) (N := 3) hx hb hts in_J2 tyJ2 tyJ2_ok nmJ2 hown hK.1 hR hS 1 z h_o1 h_e1 rfl 0 (by decide) (hts _ q89) (u_same (hts _ q88)) (Or.inl rfl) rfl rfl rfl (Nat.le_of_ble_eq_true rfl) dJ2_add_7 (la_en z (.inr (5, [.int (mc + 1), .ref (if cap = 0 then C.2.1 else ad 2 z), .int (nI n)])) en) (if_pos ⟨rfl, rfl⟩) la_hn (fun H locs hR hS => ?_)
  refine lv_aload_n hx hb dJ2_add_10 rfl (lv_at hl 0 rfl) ?_
  refine lv_aload_n hx hb dJ2_add_11 rfl (lv_at hl 1 rfl) ?_
  refine lv_aload_n hx hb dJ2_add_12 rfl (lv_at hl 0 rfl) ?_
  refine kw_get (C := RJ2) (T := TJ2) (N := 3) (v := .ref (if cap = 0 then C.2.1 else ad 2 z)) hx hb hts in_J2 hown hK.1 hR 1 z h_o1 (if_pos ⟨rfl, rfl⟩) rfl 1 (by decide) (hts _ q82) (fun _ h9 => h9) rfl dJ2_add_13 ?_
  refine lv_aload_n hx hb dJ2_add_16 rfl (lv_at hl 0 rfl) ?_
  refine kw_get (C := RJ2) (T := TJ2) (N := 3) (v := .int (nI n)) hx hb hts in_J2 hown hK.1 hR 1 z h_o1 (if_pos ⟨rfl, rfl⟩) rfl 2 (by decide) (hts _ q85) (fun _ h9 => h9) rfl dJ2_add_17 ?_
  refine cq_V (v := none) (As := [.ref v, .ref (if cap = 0 then C.2.1 else ad 2 z), .int (nI n)]) (rest := []) hK hZ hA hAA hS hR ⟨h_9, h_o1, if_pos ⟨rfl, rfl⟩, fun h0 => ⟨(h_2 h0).1, (if_neg (fun w => absurd w.1 (by decide))).trans (h_2 h0).2⟩, h_n, h_c, fun j hj y hy => le_la (h_l j hj y hy), le_la h_v⟩ (jt_add2 l E C A H.size ok ad (la_en z (.inr (5, [.int (mc + 1), .ref (if cap = 0 then C.2.1 else ad 2 z), .int (nI n)])) en) z n cap (mc + 1) h v) (fun _ h => h) ⟨hx, hb, hml, hown, hts⟩ (cwV 3 hts (lw_V q111 q113 qs0 q36 q114) rfl rfl rfl (by decide +kernel) ⟨Nat.le_of_ble_eq_true rfl, Nat.le_of_ble_eq_true rfl⟩) (kw_recv (t := 1) (i := z) hK.1 hR h_o1 (if_pos ⟨rfl, rfl⟩) rfl) rfl hl.1 rfl (Nat.le_of_ble_eq_true rfl) dJ2_add_20 ⟨Nat.le_of_ble_eq_true rfl, Nat.le_of_eq (Nat.zero_add _)⟩ (fun H locs hB hz hk hS => ?_)
  refine W.eq (g2 := F0 m 23 ls []) rfl ?_
  refine lv_iconst (v := 1) hx hb dJ2_add_23 (by decide) ?_
  refine W.widen (k := 1) (n := na_S n cap) (Nat.le_of_ble_eq_true rfl) (Nat.le_of_eq (Nat.zero_add _)) ?_
  refine W.zret (v := 1) hx hb hr rfl (fun t ht hW => ⟨⟨rfl, ?_⟩, hS.F ht⟩) hS.2.2 dJ2_add_24
  rw [ht]
  obtain ⟨q, h', a1, a2, a3⟩ := hB
  rw [na_la] at a3
  exact ⟨q, h', a1, a2, a3⟩
