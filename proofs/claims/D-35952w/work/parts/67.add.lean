/-! ArrayList.grow(), add -/
def na_C (n cap : Nat) : Nat := if n = cap then na_m cap else cap
def na_S (n cap : Nat) : Nat := if n = cap then na_m cap else 0
def aa_en (z : Nat) (x : va_E) (en : Nat → Nat → va_E) : Nat → Nat → va_E := fun u j => if u = 2 ∧ j = z then x else en u j
theorem aa_hn {ok : Nat → Nat → Prop} {z : Nat} {x : va_E} {en : Nat → Nat → va_E} : ∀ u j, ok u j → ¬ (u = 2 ∧ j = z) → aa_en z x en u j = en u j := fun _ _ _ h => if_neg h
/-- the list after an element was added -/
abbrev ad_W (E : en_T) (ok : Nat → Nat → Prop) (ad : kw_A) (en : Nat → Nat → va_E) (A : Nat → Prop) (z : Nat) (mc : Int32) (n cap : Nat) (h : Nat → Option Nat) (v : Nat) (H : Heap) : Prop := ∃ (q : Nat) (h' : Nat → Option Nat), (∀ j, j < n → h' j = h j) ∧ h' n = some v ∧ kw E (na_ok z ok) (na_ad z q ad) (na_en z (.inr (5, [.int mc, .ref q, .int (nI (n + 1))])) (na_x E (na_C n cap) h') en) A H
abbrev ad_P (E : en_T) (C : ex_C) (ok : Nat → Nat → Prop) (ad : kw_A) (en : Nat → Nat → va_E) (z : Nat) (mc : Int32) (n cap : Nat) (h : Nat → Option Nat) (v : Nat) : Prop := (∀ j, ¬ ok 9 j) ∧ ok 1 z ∧ en 1 z = .inr (5, [.int mc, .ref (if cap = 0 then C.2.1 else ad 2 z), .int (nI n)]) ∧ (cap ≠ 0 → ok 2 z ∧ en 2 z = na_x E cap h) ∧ n ≤ cap ∧ cap < 41 ∧ (∀ j, j < n → ∀ y, h j = some y → le_P C ok ad en y) ∧ le_P C ok ad en v
set_option maxHeartbeats 2000000 in
set_option maxRecDepth 100000 in
theorem jt_grow_0 (l : Launch) (E : en_T) (C : ex_C) (A : Nat → Prop) (sz : Nat) (ok : Nat → Nat → Prop) (ad : kw_A) (en : Nat → Nat → va_E) (z : Nat) (mc : Int32) : Met l yJ2_grow (ws_ yJ2_grow cJ2_grow 1 (some (.array (.object "java/lang/Object")))) { frames := 4, cells := 1, slots := na_m 0, locals := 160 } (cpc E C A sz [.ref (ad 1 z)] (kw E ok ad en A) ((∀ j, ¬ ok 9 j) ∧ ok 1 z ∧ en 1 z = .inr (5, [.int mc, .ref C.2.1, .int (nI 0)]))) (cq_E (fun a H => gr_W E ok ad en A z mc 0 (na_m 0) (fun _ => none) a H) A) 1 (na_m 0) A := by
  refine cq_start (by decide) (Nat.le_of_ble_eq_true rfl) ?_
  intro p e s m below meth c ls hx hb hr hlocks hml hown hnm hts hsz hK hZ hA hR hP hl
  subst hsz
  have hAA : ∀ a, A a → A a := fun _ h => h
  have hl : lv_has ls 1 [(0, .ref (ad 1 z))] := hl
  have hS : va_S A s.heap s.heap [] := va_S.rf
  refine lv_aload_n hx hb dJ2_grow_0 rfl (lv_at hl 0 rfl) ?_
  refine lv_aload_n hx hb dJ2_grow_1 rfl (lv_at hl 0 rfl) ?_
  refine kw_get (C := RJ2) (T := TJ2) (N := 3) (v := .int (nI 0)) hx hb hts in_J2 hown hK.1 hR 1 z hP.2.1 hP.2.2 rfl 2 (by decide) (hts _ q85) (fun _ h9 => h9) rfl dJ2_grow_2 ?_
  refine lv_iconst (v := 1) hx hb dJ2_grow_5 (by decide) ?_
  refine lv_iadd hx hb dJ2_grow_6 ?_
  refine W.eq (g2 := F0 m 7 ls [.int (nI 1), .ref (ad 1 z)]) (congrArg (fun w => F0 m 7 ls [.int w, .ref (ad 1 z)]) (nI_1 0)) ?_
  refine cq_VE (As := [.int (nI 1)]) (rest := []) hK hZ hA hAA hS hR hP (jt_grow2_0 l E C A s.heap.size ok ad en z mc) (fun _ h => h) ⟨hx, hb, hml, hown, hts⟩ (cwV 1 hts (lw_V q119 q121 qs2 q36 q122) rfl rfl rfl (by decide +kernel) ⟨Nat.le_of_ble_eq_true rfl, Nat.le_of_ble_eq_true rfl⟩) (kw_recv (t := 1) (i := z) hK.1 hR hP.2.1 hP.2.2 rfl) rfl hl.1 rfl (Nat.le_of_ble_eq_true rfl) dJ2_grow_7 ⟨Nat.le_of_ble_eq_true rfl, Nat.le_of_eq (Nat.zero_add _)⟩ (fun q H locs hB hz hk hS => ?_)
  refine W.widen (k := 1) (n := na_m 0) (Nat.le_of_ble_eq_true rfl) (Nat.le_of_eq (Nat.zero_add _)) ?_
  exact W.aret (v := .ref q) hx hb hr (Or.inr ⟨_, rfl⟩) (Or.inr ⟨_, rfl⟩) (fun t ht hW => ⟨⟨q, rfl, by rw [ht]; exact hB⟩, hS.F ht⟩) hS.2.2 dJ2_grow_10
set_option maxHeartbeats 2000000 in
set_option maxRecDepth 100000 in
theorem jt_grow_1 (l : Launch) (E : en_T) (C : ex_C) (A : Nat → Prop) (sz : Nat) (ok : Nat → Nat → Prop) (ad : kw_A) (en : Nat → Nat → va_E) (z cap : Nat) (mc : Int32) (h : Nat → Option Nat) : Met l yJ2_grow (ws_ yJ2_grow cJ2_grow 1 (some (.array (.object "java/lang/Object")))) { frames := 4, cells := 1, slots := na_m cap, locals := 160 } (cpc E C A sz [.ref (ad 1 z)] (kw E ok ad en A) ((∀ j, ¬ ok 9 j) ∧ ok 1 z ∧ en 1 z = .inr (5, [.int mc, .ref (ad 2 z), .int (nI cap)]) ∧ ok 2 z ∧ en 2 z = na_x E cap h ∧ 0 < cap ∧ cap < 41 ∧ ∀ j, j < cap → ∀ y, h j = some y → le_P C ok ad en y)) (cq_E (fun a H => gr_W E ok ad en A z mc cap (na_m cap) (na_c cap h) a H) A) 1 (na_m cap) A := by
  refine cq_start (by decide) (Nat.le_of_ble_eq_true rfl) ?_
  intro p e s m below meth c ls hx hb hr hlocks hml hown hnm hts hsz hK hZ hA hR hP hl
  subst hsz
  have hAA : ∀ a, A a → A a := fun _ h => h
  have hl : lv_has ls 1 [(0, .ref (ad 1 z))] := hl
  have hS : va_S A s.heap s.heap [] := va_S.rf
  refine lv_aload_n hx hb dJ2_grow_0 rfl (lv_at hl 0 rfl) ?_
  refine lv_aload_n hx hb dJ2_grow_1 rfl (lv_at hl 0 rfl) ?_
  refine kw_get (C := RJ2) (T := TJ2) (N := 3) (v := .int (nI cap)) hx hb hts in_J2 hown hK.1 hR 1 z hP.2.1 hP.2.2.1 rfl 2 (by decide) (hts _ q85) (fun _ h9 => h9) rfl dJ2_grow_2 ?_
  refine lv_iconst (v := 1) hx hb dJ2_grow_5 (by decide) ?_
  refine lv_iadd hx hb dJ2_grow_6 ?_
  refine W.eq (g2 := F0 m 7 ls [.int (nI (cap + 1)), .ref (ad 1 z)]) (congrArg (fun w => F0 m 7 ls [.int w, .ref (ad 1 z)]) (nI_1 cap)) ?_
  refine cq_VE (As := [.int (nI (cap + 1))]) (rest := []) hK hZ hA hAA hS hR hP (jt_grow2_1 l E C A s.heap.size ok ad en z cap mc h) (fun _ h => h) ⟨hx, hb, hml, hown, hts⟩ (cwV 1 hts (lw_V q119 q121 qs2 q36 q122) rfl rfl rfl (by decide +kernel) ⟨Nat.le_of_ble_eq_true rfl, Nat.le_of_ble_eq_true rfl⟩) (kw_recv (t := 1) (i := z) hK.1 hR hP.2.1 hP.2.2.1 rfl) rfl hl.1 rfl (Nat.le_of_ble_eq_true rfl) dJ2_grow_7 ⟨Nat.le_of_ble_eq_true rfl, Nat.le_of_eq (Nat.zero_add _)⟩ (fun q H locs hB hz hk hS => ?_)
  refine W.widen (k := 1) (n := na_m cap) (Nat.le_of_ble_eq_true rfl) (Nat.le_of_eq (Nat.zero_add _)) ?_
  exact W.aret (v := .ref q) hx hb hr (Or.inr ⟨_, rfl⟩) (Or.inr ⟨_, rfl⟩) (fun t ht hW => ⟨⟨q, rfl, by rw [ht]; exact hB⟩, hS.F ht⟩) hS.2.2 dJ2_grow_10
theorem na_ch {cap j : Nat} {h : Nat → Option Nat} (hj : j < cap) : na_c cap h j = h j := by
  unfold na_c va_cpy
  rw [if_pos ⟨Nat.zero_le _, by omega⟩]
  exact congrArg h (by omega)
/-- the end of add's second body: the element is put into the new array -/
theorem ad_new {E : en_T} {ok : Nat → Nat → Prop} {ad : kw_A} {en : Nat → Nat → va_E} {A : Nat → Prop} {z cap v q : Nat} {mc : Int32} {h h0 : Nat → Option Nat} {l : va_E} {H : Heap} (h9 : ∀ j, ¬ ok 9 j) (h0h : ∀ j, j < cap → h0 j = h j) (hR : kw E (nk_ok ok) (nk_ad q ad) (nk_en (na_x E (na_m cap) (va_up h0 cap (some v))) (la_en z (.inr (5, [.int mc, .ref q, .int (nI (cap + 1))])) (la_en z l en))) A H) : ad_W E ok ad en A z mc cap cap h v H := by
  refine ⟨q, va_up h0 cap (some v), fun j hj => ?_, va_up_self _ _ _, ?_⟩
  · rw [va_up_ne _ _ (by omega)]; exact h0h j hj
  · have e : na_C cap cap = na_m cap := if_pos rfl
    rw [e]
    refine na_mk h9 (fun u j => ?_) hR
    show (if _ then _ else if _ then _ else _) = _
    by_cases c : u = 1 ∧ j = z
    · rw [if_pos c, if_pos c]
    · rw [if_neg c, if_neg c, if_neg c]
theorem ad_old {E : en_T} {ok : Nat → Nat → Prop} {ad : kw_A} {en : Nat → Nat → va_E} {A : Nat → Prop} {z n cap v : Nat} {mc : Int32} {h : Nat → Option Nat} {H : Heap} (hn : n ≠ cap) (h2 : ok 2 z) (hR : kw E ok ad (la_en z (.inr (5, [.int mc, .ref (ad 2 z), .int (nI (n + 1))])) (aa_en z (na_x E cap (va_up h n (some v))) en)) A H) : ad_W E ok ad en A z mc n cap h v H := by
  refine ⟨ad 2 z, va_up h n (some v), fun j hj => va_up_ne _ _ (by omega), va_up_self _ _ _, ?_⟩
  have e : na_C n cap = cap := if_neg hn
  rw [e]
  refine hR.less (fun u j ho => ⟨?_, ?_, ?_⟩)
  · rcases ho with ⟨rfl, rfl⟩ | ho
    · exact h2
    · exact ho
  · show (if _ then _ else _) = _
    by_cases c : u = 2 ∧ j = z
    · obtain ⟨rfl, rfl⟩ := c
      rw [if_pos ⟨rfl, rfl⟩]
    · rw [if_neg c]
  · show (if _ then _ else if _ then _ else _) = (if _ then _ else if _ then _ else _)
    by_cases c : u = 2 ∧ j = z
    · rw [if_pos c, if_neg (fun w => by have := w.1.symm.trans c.1; omega), if_pos c]
    · rw [if_neg c, if_neg c]
theorem le_la {C : ex_C} {ok : Nat → Nat → Prop} {ad : kw_A} {en : Nat → Nat → va_E} {z y : Nat} {fs : List Value} (h : le_P C ok ad en y) : le_P C ok ad (la_en z (.inr (5, fs)) en) y := by
  rcases h with ⟨t, i, ci, fs', ho, e, he, hci⟩ | h
  · by_cases c : t = 1 ∧ i = z
    · exact Or.inl ⟨t, i, 5, fs, ho, e, if_pos c, Or.inr (Or.inr (Or.inr rfl))⟩
    · exact Or.inl ⟨t, i, ci, fs', ho, e, (if_neg c).trans he, hci⟩
  · exact Or.inr h
set_option maxHeartbeats 2000000 in
set_option maxRecDepth 100000 in
theorem jt_add2 (l : Launch) (E : en_T) (C : ex_C) (A : Nat → Prop) (sz : Nat) (ok : Nat → Nat → Prop) (ad : kw_A) (en : Nat → Nat → va_E) (z n cap : Nat) (mc : Int32) (h : Nat → Option Nat) (v : Nat) : Met l yJ2_add_2 (ws_ yJ2_add_2 cJ2_add_2 4 none) { frames := 5, cells := 1, slots := na_S n cap, locals := 190 } (cpc E C A sz [.ref (ad 1 z), .ref v, .ref (if cap = 0 then C.2.1 else ad 2 z), .int (nI n)] (kw E ok ad en A) (ad_P E C ok ad en z mc n cap h v)) (cq_Q none (ad_W E ok ad en A z mc n cap h v) A) 1 (na_S n cap) A := by
  refine cq_start (by decide) (Nat.le_of_ble_eq_true rfl) ?_
  intro p e s m below meth c ls hx hb hr hlocks hml hown hnm hts hsz hK hZ hA hR hP hl
  subst hsz
  have hAA : ∀ a, A a → A a := fun _ h => h
  have hl : lv_has ls 4 [(0, .ref (ad 1 z)), (1, .ref v), (2, .ref (if cap = 0 then C.2.1 else ad 2 z)), (3, .int (nI n))] := hl
  have hS : va_S A s.heap s.heap [] := va_S.rf
  obtain ⟨h_9, h_o1, h_e1, h_2, h_n, h_c, h_l, h_v⟩ := hP
  refine lv_iload_n hx hb dJ2_add_2_0 rfl (lv_at hl 3 rfl) ?_
  refine lv_aload_n hx hb dJ2_add_2_1 rfl (lv_at hl 2 rfl) ?_
  by_cases h0 : cap = 0
  · subst h0
    have hn0 : n = 0 := by omega
    subst hn0
    have e0 : na_S 0 0 = na_m 0 := if_pos rfl
    rw [e0]
    rw [if_pos rfl] at h_e1 hl hts ⊢
    refine va_tlen (v := 0) hx hb hZ.2.2.2.2.2.1 hS rfl dJ2_add_2_2 ?_
    refine lv_icmp_ne (tgt := 11) hx hb dJ2_add_2_3 (by decide) (fun h9 => absurd rfl h9) (fun _ => ?_)
    refine lv_aload_n hx hb dJ2_add_2_6 rfl (lv_at hl 0 rfl) ?_
    refine cq_VE (As := []) (rest := []) hK hZ hA hAA hS hR ⟨h_9, h_o1, h_e1⟩ (jt_grow_0 l E C A s.heap.size ok ad en z mc) (fun _ h => h) ⟨hx, hb, hml, hown, hts⟩ (cwV 0 hts (lw_V q115 q117 qs1 q36 q118) rfl rfl rfl (by decide +kernel) ⟨Nat.le_of_ble_eq_true rfl, Nat.le_of_ble_eq_true rfl⟩) (kw_recv (t := 1) (i := z) hK.1 hR h_o1 h_e1 rfl) rfl hl.1 rfl (Nat.le_of_ble_eq_true rfl) dJ2_add_2_7 ⟨Nat.le_of_ble_eq_true rfl, Nat.le_of_eq (Nat.zero_add _)⟩ (fun q H locs hR hz hk hS => ?_)
    refine lv_astore_n (lv' := [(2, .ref q), (0, .ref (ad 1 z)), (1, .ref v), (3, .int (nI 0))]) hx hb dJ2_add_2_10 rfl hl (by decide) rfl (fun ls hl => ?_)
    refine lv_aload_n hx hb dJ2_add_2_11 rfl (lv_at hl 0 rfl) ?_
    refine lv_iload_n hx hb dJ2_add_2_12 rfl (lv_at hl 3 rfl) ?_
    refine lv_aload_n hx hb dJ2_add_2_13 rfl (lv_at hl 2 rfl) ?_
    refine kw_aast hx hb hK.1 hR hS 9 0 rfl rfl (le_any hK hZ hS hR (le_nk h_9 (le_la h_v))) (vp_in_nI (by decide) (by decide)) dJ2_add_2_14 (nk_en (na_x E (na_m 0) (va_up (fun _ => none) 0 (some v))) (la_en z (.inr (5, [.int mc, .ref q, .int (nI 0)])) en)) rfl nk_hn (fun H locs hR hS => ?_)
    refine lv_aload_n hx hb dJ2_add_2_15 rfl (lv_at hl 1 rfl) ?_
    refine lv_iload_n hx hb dJ2_add_2_16 rfl (lv_at hl 3 rfl) ?_
    refine lv_iconst (v := 1) hx hb dJ2_add_2_17 (by decide) ?_
    refine lv_iadd hx hb dJ2_add_2_18 ?_
    refine W.eq (g2 := F0 m 19 ls [.int (nI (0 + 1)), .ref (ad 1 z)]) (congrArg (fun w => F0 m 19 ls [.int w, .ref (ad 1 z)]) (nI_1 0)) ?_
    refine kw_put (C := RJ2) (T := TJ2) (N := 3) hx hb hts in_J2 tyJ2 tyJ2_ok nmJ2 hown hK.1 hR hS 1 z h_o1 (if_pos ⟨rfl, rfl⟩) rfl 2 (by decide) (hts _ q85) (fun _ h9 => h9) (Or.inl rfl) rfl rfl rfl (Nat.le_of_ble_eq_true rfl) dJ2_add_2_19 (nk_en (na_x E (na_m 0) (va_up (fun _ => none) 0 (some v))) (la_en z (.inr (5, [.int mc, .ref q, .int (nI (0 + 1))])) (la_en z (.inr (5, [.int mc, .ref q, .int (nI 0)])) en))) (if_pos ⟨rfl, rfl⟩) (nk_hc la_hn) (fun H locs hR hS => ?_)
    refine W.widen (k := 1) (n := na_m 0) (Nat.le_of_ble_eq_true rfl) (Nat.le_of_eq (Nat.zero_add _)) ?_
    exact W.vret hx hb hr (fun t ht hW => ⟨⟨rfl, by rw [ht]; exact ad_new (h0 := fun _ => none) h_9 (fun j hj => absurd hj (Nat.not_lt_zero _)) hR⟩, hS.F ht⟩) hS.2.2 dJ2_add_2_22
  · rw [if_neg h0] at h_e1 hl hts ⊢
    obtain ⟨h_o2, h_e2⟩ := h_2 h0
    refine kw_alen (v := nI cap) hx hb hK.1 hR 2 z h_o2 (Or.inl h_e2) rfl dJ2_add_2_2 ?_
    by_cases hn : n = cap
    · subst hn
      have e0 : na_S n n = na_m n := if_pos rfl
      rw [e0]
      obtain ⟨m1, m2, m3, m4, m5⟩ := na_Lm n h_c (by omega)
      have m6 : n < na_m n := by unfold na_m; rw [if_neg h0]; omega
      refine lv_icmp_ne (tgt := 11) hx hb dJ2_add_2_3 (by decide) (fun h9 => absurd rfl h9) (fun _ => ?_)
      refine lv_aload_n hx hb dJ2_add_2_6 rfl (lv_at hl 0 rfl) ?_
      refine cq_VE (As := []) (rest := []) hK hZ hA hAA hS hR ⟨h_9, h_o1, h_e1, h_o2, h_e2, by omega, h_c, h_l⟩ (jt_grow_1 l E C A s.heap.size ok ad en z n mc h) (fun _ h => h) ⟨hx, hb, hml, hown, hts⟩ (cwV 0 hts (lw_V q115 q117 qs1 q36 q118) rfl rfl rfl (by decide +kernel) ⟨Nat.le_of_ble_eq_true rfl, Nat.le_of_ble_eq_true rfl⟩) (kw_recv (t := 1) (i := z) hK.1 hR h_o1 h_e1 rfl) rfl hl.1 rfl (Nat.le_of_ble_eq_true rfl) dJ2_add_2_7 ⟨Nat.le_of_ble_eq_true rfl, Nat.le_of_eq (Nat.zero_add _)⟩ (fun q H locs hR hz hk hS => ?_)
      refine lv_astore_n (lv' := [(2, .ref q), (0, .ref (ad 1 z)), (1, .ref v), (3, .int (nI n))]) hx hb dJ2_add_2_10 rfl hl (by decide) rfl (fun ls hl => ?_)
      refine lv_aload_n hx hb dJ2_add_2_11 rfl (lv_at hl 0 rfl) ?_
      refine lv_iload_n hx hb dJ2_add_2_12 rfl (lv_at hl 3 rfl) ?_
      refine lv_aload_n hx hb dJ2_add_2_13 rfl (lv_at hl 2 rfl) ?_
      refine kw_aast hx hb hK.1 hR hS 9 0 rfl rfl (le_any hK hZ hS hR (le_nk h_9 (le_la h_v))) (vp_in_nI m6 (by omega)) dJ2_add_2_14 (nk_en (na_x E (na_m n) (va_up (na_c n h) n (some v))) (la_en z (.inr (5, [.int mc, .ref q, .int (nI n)])) en)) (by rw [nI_clamp (by omega)]; rfl) nk_hn (fun H locs hR hS => ?_)
      refine lv_aload_n hx hb dJ2_add_2_15 rfl (lv_at hl 1 rfl) ?_
      refine lv_iload_n hx hb dJ2_add_2_16 rfl (lv_at hl 3 rfl) ?_
      refine lv_iconst (v := 1) hx hb dJ2_add_2_17 (by decide) ?_
      refine lv_iadd hx hb dJ2_add_2_18 ?_
      refine W.eq (g2 := F0 m 19 ls [.int (nI (n + 1)), .ref (ad 1 z)]) (congrArg (fun w => F0 m 19 ls [.int w, .ref (ad 1 z)]) (nI_1 n)) ?_
      refine kw_put (C := RJ2) (T := TJ2) (N := 3) hx hb hts in_J2 tyJ2 tyJ2_ok nmJ2 hown hK.1 hR hS 1 z h_o1 (if_pos ⟨rfl, rfl⟩) rfl 2 (by decide) (hts _ q85) (fun _ h9 => h9) (Or.inl rfl) rfl rfl rfl (Nat.le_of_ble_eq_true rfl) dJ2_add_2_19 (nk_en (na_x E (na_m n) (va_up (na_c n h) n (some v))) (la_en z (.inr (5, [.int mc, .ref q, .int (nI (n + 1))])) (la_en z (.inr (5, [.int mc, .ref q, .int (nI n)])) en))) (if_pos ⟨rfl, rfl⟩) (nk_hc la_hn) (fun H locs hR hS => ?_)
      refine W.widen (k := 1) (n := na_m n) (Nat.le_of_ble_eq_true rfl) (Nat.le_of_eq (Nat.zero_add _)) ?_
      exact W.vret hx hb hr (fun t ht hW => ⟨⟨rfl, by rw [ht]; exact ad_new (h0 := na_c n h) h_9 (fun j hj => na_ch hj) hR⟩, hS.F ht⟩) hS.2.2 dJ2_add_2_22
    · have hne : ¬ nI n = nI cap := fun w => hn ((nI_ne (by omega) (by omega)).mp w)
      refine lv_icmp_ne (tgt := 11) hx hb dJ2_add_2_3 (by decide) (fun _ => ?_) (fun h9 => absurd h9 hne)
      refine lv_aload_n hx hb dJ2_add_2_11 rfl (lv_at hl 2 rfl) ?_
      refine lv_iload_n hx hb dJ2_add_2_12 rfl (lv_at hl 3 rfl) ?_
      refine lv_aload_n hx hb dJ2_add_2_13 rfl (lv_at hl 1 rfl) ?_
      refine kw_aast hx hb hK.1 hR hS 2 z h_o2 h_e2 (le_any hK hZ hS hR h_v) (vp_in_nI (by omega) (by omega)) dJ2_add_2_14 (aa_en z (na_x E cap (va_up h n (some v))) en) (by rw [nI_clamp (by omega)]; exact if_pos ⟨rfl, rfl⟩) aa_hn (fun H locs hR hS => ?_)
      refine lv_aload_n hx hb dJ2_add_2_15 rfl (lv_at hl 0 rfl) ?_
      refine lv_iload_n hx hb dJ2_add_2_16 rfl (lv_at hl 3 rfl) ?_
      refine lv_iconst (v := 1) hx hb dJ2_add_2_17 (by decide) ?_
      refine lv_iadd hx hb dJ2_add_2_18 ?_
      refine W.eq (g2 := F0 m 19 ls [.int (nI (n + 1)), .ref (ad 1 z)]) (congrArg (fun w => F0 m 19 ls [.int w, .ref (ad 1 z)]) (nI_1 n)) ?_
      refine kw_put (C := RJ2) (T := TJ2) (N := 3) hx hb hts in_J2 tyJ2 tyJ2_ok nmJ2 hown hK.1 hR hS 1 z h_o1 ((if_neg (fun w => absurd w.1 (by decide))).trans h_e1) rfl 2 (by decide) (hts _ q85) (fun _ h9 => h9) (Or.inl rfl) rfl rfl rfl (Nat.le_of_ble_eq_true rfl) dJ2_add_2_19 (la_en z (.inr (5, [.int mc, .ref (ad 2 z), .int (nI (n + 1))])) (aa_en z (na_x E cap (va_up h n (some v))) en)) (if_pos ⟨rfl, rfl⟩) la_hn (fun H locs hR hS => ?_)
      refine W.widen (k := 1) (n := na_S n cap) (Nat.le_of_ble_eq_true rfl) (Nat.zero_le _) ?_
      exact W.vret hx hb hr (fun t ht hW => ⟨⟨rfl, by rw [ht]; exact ad_old hn h_o2 hR⟩, hS.F ht⟩) hS.2.2 dJ2_add_2_22
