/-! newarray in keyed worlds; Arrays.fill; the model's constructor -/
section KI
variable {p : Program} {l : Launch} {e : Env} {R : Room} {s : State} {m : MethodId} {args : Array Value} {below : List Frame} {meth : Method} {c : Code} {H : Heap} {locs : List Loc} {cells slots : Nat} {Q : State → Prop}
variable {cc : ByteArray} {pc : Nat} {ls : Array Slot} {rest : List Value} {E : en_T} {A : Nat → Prop} {H0 : Heap} {ok : Nat → Nat → Prop} {ad : kw_A} {en : Nat → Nat → va_E}
theorem kw_newi (hexec : p.tables.exec = Jvm.exec) (hb : c.code = cc) (harr : (Cond.arrayClass FieldType.int).before args s = true) (hK : en_K E s) (hR : kw E ok ad en A H) (hS : va_S A H0 H locs) (hA : ∀ q, H0.size ≤ q → A q)
    {n : Int32} {N' : Nat} (hn : ¬ n < 0) (hN : n.toNatClampNeg = N') (hbytes : N' * componentBytes .int ≤ 536870912) (hcells : cells + 1 ≤ R.cells) (hslots : slots + N' ≤ R.slots) (hdg : decode cc pc = .ok (.newarray .int, 2)) (t i : Nat)
    (kk : ∀ (q : Nat) (H1 : Heap), kw E (fun u j => (u = t ∧ j = i) ∨ ok u j) (fun u j => if u = t ∧ j = i then q else ad u j) (fun u j => if u = t ∧ j = i then .inl (E.2.1, N', .inl (fun _ => 0)) else en u j) A H1 → va_S A H0 H1 locs →
      W p l e R s m args below meth c H1 locs (cells + 1) (slots + N') Q (F0 m (pc + 2) ls (.ref q :: rest))) : W p l e R s m args below meth c H locs cells slots Q (F0 m pc ls (.int n :: rest)) := by
  obtain ⟨L, f, h1, h2, h3, h4⟩ := hR
  refine va_newa (atype := .int) (ty := .int) (a0 := (N', .inl (fun _ => 0))) hexec hb harr rfl hK h1 h2 hS hA (fun cA => vp_cell_i cA N' (fun _ => 0)) hn hN hbytes hcells hslots hdg (fun q cA H1 g1 g2 g3 g4 => ?_)
  have hcA : cA = E.2.1 := by
    have n1 := va_nm_int (g1.2 4 (cA, .int) rfl).2
    have n2 := va_nm_int (hK.2 0 (E.2.1, .int) rfl).2
    exact Option.some.inj (n1.symm.trans n2)
  subst hcA
  have hq : q ∉ L := va_pl_fresh2 (X := []) g3
  rw [va_pl_push hq] at g2 g3
  obtain ⟨a1, a2⟩ := kw_push (t := t) (i := i) (a := q) (x := .inl (E.2.1, N', .inl (fun _ => 0))) (ok' := fun u j => (u = t ∧ j = i) ∨ ok u j) (ad' := fun u j => if u = t ∧ j = i then q else ad u j) (en' := fun u j => if u = t ∧ j = i then .inl (E.2.1, N', .inl (fun _ => 0)) else en u j) hq h3 h4 (by simp) (by simp) (fun u j ho hc => ⟨ho.resolve_left hc, if_neg hc, if_neg hc⟩)
  exact kk q H1 ⟨_, _, g2, g3, a1, a2⟩ g4
theorem kw_newz (hexec : p.tables.exec = Jvm.exec) (hb : c.code = cc) (harr : (Cond.arrayClass FieldType.boolean).before args s = true) (hK : en_K E s) (hR : kw E ok ad en A H) (hS : va_S A H0 H locs) (hA : ∀ q, H0.size ≤ q → A q)
    {n : Int32} {N' : Nat} (hn : ¬ n < 0) (hN : n.toNatClampNeg = N') (hbytes : N' * componentBytes .boolean ≤ 536870912) (hcells : cells + 1 ≤ R.cells) (hslots : slots + N' ≤ R.slots) (hdg : decode cc pc = .ok (.newarray .boolean, 2)) (t i : Nat)
    (kk : ∀ (q : Nat) (H1 : Heap), kw E (fun u j => (u = t ∧ j = i) ∨ ok u j) (fun u j => if u = t ∧ j = i then q else ad u j) (fun u j => if u = t ∧ j = i then .inl (E.2.2.1, N', .inl (fun _ => 0)) else en u j) A H1 → va_S A H0 H1 locs →
      W p l e R s m args below meth c H1 locs (cells + 1) (slots + N') Q (F0 m (pc + 2) ls (.ref q :: rest))) : W p l e R s m args below meth c H locs cells slots Q (F0 m pc ls (.int n :: rest)) := by
  obtain ⟨L, f, h1, h2, h3, h4⟩ := hR
  refine va_newa (atype := .boolean) (ty := .boolean) (a0 := (N', .inl (fun _ => 0))) hexec hb harr rfl hK h1 h2 hS hA (fun cA => vp_cell_i cA N' (fun _ => 0)) hn hN hbytes hcells hslots hdg (fun q cA H1 g1 g2 g3 g4 => ?_)
  have hcA : cA = E.2.2.1 := by
    have n1 := va_nm_boolean (g1.2 4 (cA, .boolean) rfl).2
    have n2 := va_nm_boolean (hK.2 1 (E.2.2.1, .boolean) rfl).2
    exact Option.some.inj (n1.symm.trans n2)
  subst hcA
  have hq : q ∉ L := va_pl_fresh2 (X := []) g3
  rw [va_pl_push hq] at g2 g3
  obtain ⟨a1, a2⟩ := kw_push (t := t) (i := i) (a := q) (x := .inl (E.2.2.1, N', .inl (fun _ => 0))) (ok' := fun u j => (u = t ∧ j = i) ∨ ok u j) (ad' := fun u j => if u = t ∧ j = i then q else ad u j) (en' := fun u j => if u = t ∧ j = i then .inl (E.2.2.1, N', .inl (fun _ => 0)) else en u j) hq h3 h4 (by simp) (by simp) (fun u j ho hc => ⟨ho.resolve_left hc, if_neg hc, if_neg hc⟩)
  exact kk q H1 ⟨_, _, g2, g3, a1, a2⟩ g4
end KI
/-! Arrays.fill(int[], int) -/
def fl (f : Nat → Int32) (i : Nat) (v : Int32) : Nat → Int32 := fun j => if j < i then v else f j
theorem fl_0 {f : Nat → Int32} {v : Int32} : fl f 0 v = f := funext (fun j => if_neg (Nat.not_lt_zero j))
theorem fl_s {f : Nat → Int32} {v : Int32} {i : Nat} : upd (fl f i v) i v = fl f (i + 1) v := by
  funext j
  show (if j = i then v else if j < i then v else f j) = if j < i + 1 then v else f j
  by_cases c : j = i
  · rw [if_pos c, if_pos (by omega)]
  · rw [if_neg c]
    by_cases d : j < i
    · rw [if_pos d, if_pos (by omega)]
    · rw [if_neg d, if_neg (by omega)]
set_option maxHeartbeats 2000000 in
set_option maxRecDepth 100000 in
theorem jt_fill (l : Launch) (E : en_T) (C : ex_C) (A : Nat → Prop) (sz : Nat) (ok : Nat → Nat → Prop) (ad : kw_A) (en : Nat → Nat → va_E) (t i0 n : Nat) (f : Nat → Int32) (v : Int32) : Met l yJ3_fill (ws_ yJ3_fill cJ3_fill 4 none) { frames := 0, cells := 0, slots := 0, locals := 0 } (cpc E C A sz [.ref (ad t i0), .int v] (kw E ok ad en A) (ok t i0 ∧ en t i0 = .inl (E.2.1, n, .inl f) ∧ n ≤ 1000)) (cq_Q none (fun H => kw E ok ad (ge_en t i0 (.inl (E.2.1, n, .inl (fl f n v))) en) A H) A) 0 0 A := by
  refine cq_start (by decide) (Nat.le_of_ble_eq_true rfl) ?_
  intro p e s m below meth c ls hx hb hr hlocks hml hown hnm hts hsz hK hZ hA hR hP hl
  subst hsz
  have hl : lv_has ls 4 [(0, .ref (ad t i0)), (1, .int v)] := hl
  have hS : va_S A s.heap s.heap [] := va_S.rf
  obtain ⟨h_o, h_e, h_n⟩ := hP
  refine lv_iconst (v := 0) hx hb dJ3_fill_0 (by decide) ?_
  refine lv_istore_n (lv' := [(2, .int 0), (0, .ref (ad t i0)), (1, .int v)]) hx hb dJ3_fill_1 rfl hl (by decide) rfl (fun ls hl => ?_)
  refine lv_aload_n hx hb dJ3_fill_2 rfl (lv_at hl 1 rfl) ?_
  refine kw_alen (v := nI n) hx hb hK.1 hR t i0 h_o (Or.inr h_e) rfl dJ3_fill_3 ?_
  refine lv_istore_n (lv' := [(3, .int (nI n)), (2, .int 0), (0, .ref (ad t i0)), (1, .int v)]) hx hb dJ3_fill_4 rfl hl (by decide) rfl (fun ls hl => ?_)
  have hL : ∀ (k i : Nat) (H : Heap) (locs : List Loc) (ls : Array Slot), i + k = n → kw E ok ad (ge_en t i0 (.inl (E.2.1, n, .inl (fl f i v))) en) A H → va_S A s.heap H locs → lv_has ls 4 [(2, .int (nI i)), (3, .int (nI n)), (0, .ref (ad t i0)), (1, .int v)] → cq_G p l e { frames := 0, cells := 0, slots := 0, locals := 0 } s m [.ref (ad t i0), .int v] below meth c A (cq_Q none (fun H => kw E ok ad (ge_en t i0 (.inl (E.2.1, n, .inl (fl f n v))) en) A H) A) 0 0 H locs 0 0 (F0 m 5 ls []) := by
    intro k
    induction k with
    | zero =>
      intro i H locs ls hi hR hS hl
      have hi : i = n := hi
      subst hi
      refine lv_iload_n hx hb dJ3_fill_5 rfl (lv_at hl 0 rfl) ?_
      refine lv_iload_n hx hb dJ3_fill_6 rfl (lv_at hl 1 rfl) ?_
      refine lv_icmp_ge (tgt := 20) hx hb dJ3_fill_7 (by decide) (fun _ => ?_) (fun h => absurd (Int32.le_refl _) h)
      exact W.vret hx hb hr (fun t ht hW => ⟨⟨rfl, by rw [ht]; exact hR⟩, hS.F ht⟩) hS.2.2 dJ3_fill_20
    | succ k ih =>
      intro i H locs ls hi hR hS hl
      refine lv_iload_n hx hb dJ3_fill_5 rfl (lv_at hl 0 rfl) ?_
      refine lv_iload_n hx hb dJ3_fill_6 rfl (lv_at hl 1 rfl) ?_
      refine lv_icmp_ge (tgt := 20) hx hb dJ3_fill_7 (by decide) (fun h => absurd h (nI_ge (by omega) (by omega))) (fun _ => ?_)
      refine lv_aload_n hx hb dJ3_fill_10 rfl (lv_at hl 2 rfl) ?_
      refine lv_iload_n hx hb dJ3_fill_11 rfl (lv_at hl 0 rfl) ?_
      refine lv_iload_n hx hb dJ3_fill_12 rfl (lv_at hl 3 rfl) ?_
      refine kw_iast (n := n) hx hb hK.1 hR hS t i0 h_o ge_s (vp_in_nI (by omega) (by omega)) dJ3_fill_13 (ge_en t i0 (.inl (E.2.1, n, .inl (fl f (i + 1) v))) en) (by rw [ge_s, nI_clamp (by omega), fl_s]) ge_2 (fun H locs hR hS => ?_)
      refine lv_iinc (v := nI (i + 1)) (lv' := [(2, .int (nI (i + 1))), (3, .int (nI n)), (0, .ref (ad t i0)), (1, .int v)]) hx hb dJ3_fill_14 hl (k := 0) rfl (nI_1 i) (by decide) rfl (fun ls hl => ?_)
      refine lv_goto (tgt := 5) hx hb dJ3_fill_17 (by decide) ?_
      exact ih (i + 1) H locs ls (by omega) hR hS hl
  refine hL n 0 _ _ ls (Nat.zero_add _) ?_ hS (lv_sub hl [1, 0, 2, 3] rfl)
  rw [fl_0]
  refine hR.less (fun u j ho => ⟨ho, rfl, ?_⟩)
  by_cases c : u = t ∧ j = i0
  · obtain ⟨rfl, rfl⟩ := c
    rw [ge_s, h_e]
  · exact ge_n c
/-! the model's constructor -/
def mk_fs (g : kw_A) (S : gs_T) (k : Nat) : List Value := (List.range 38).map fun j => if mr_arr j = true then (if j < k then .ref (g 6 j) else .null) else .int (S j 0)
def okM (k : Nat) : Nat → Nat → Prop := fun u j => (u = 0 ∧ j = 0) ∨ (u = 6 ∧ j < k ∧ mr_arr j = true)
def enM (E : en_T) (g : kw_A) (S : gs_T) (k : Nat) : Nat → Nat → va_E := fun u j => if u = 0 then .inr (1, mk_fs g S k) else .inl (if j = 19 then E.2.2.1 else E.2.1, (mr_len j, .inl (S j)))
theorem mk_len (g : kw_A) (S : gs_T) (k : Nat) : (mk_fs g S k).length = 38 := by simp [mk_fs]
theorem mk_at (g : kw_A) (S : gs_T) (k : Nat) {j : Nat} (hj : j < 38) : (mk_fs g S k)[j]? = some (if mr_arr j = true then (if j < k then .ref (g 6 j) else .null) else .int (S j 0)) := by
  simp [mk_fs, hj]
theorem mk_puta (g : kw_A) (S : gs_T) {k k' : Nat} (hk : k < 38) (ha : mr_arr k = true) (hkk : ∀ j, j < 38 → mr_arr j = true → (j < k' ↔ j < k ∨ j = k)) : (mk_fs g S k).set k (.ref (g 6 k)) = mk_fs g S k' := by
  apply List.ext_getElem?
  intro j
  by_cases hj : j < 38
  · rw [mk_at _ _ _ hj]
    by_cases e : j = k
    · subst e
      rw [List.getElem?_set_self (by rw [mk_len]; exact hj), if_pos ha, if_pos ((hkk j hj ha).mpr (Or.inr rfl))]
    · rw [List.getElem?_set_ne (Ne.symm e), mk_at _ _ _ hj]
      by_cases a : mr_arr j = true
      · rw [if_pos a, if_pos a]
        by_cases c : j < k
        · rw [if_pos c, if_pos ((hkk j hj a).mpr (Or.inl c))]
        · rw [if_neg c, if_neg (fun z => ((hkk j hj a).mp z).elim c e)]
      · rw [if_neg a, if_neg a]
  · rw [List.getElem?_eq_none (by rw [List.length_set, mk_len]; omega), List.getElem?_eq_none (by rw [mk_len]; omega)]
theorem mk_puti (g : kw_A) (S : gs_T) {k j : Nat} (hk : j < 38) (ha : mr_arr j = false) (v : Int32) : (mk_fs g S k).set j (.int v) = mk_fs g (gs_up S j 0 v) k := by
  apply List.ext_getElem?
  intro i
  by_cases hi : i < 38
  · rw [mk_at _ _ _ hi]
    by_cases e : i = j
    · subst e
      rw [List.getElem?_set_self (by rw [mk_len]; exact hi), if_neg (by rw [ha]; decide), gs_up_self]
    · rw [List.getElem?_set_ne (Ne.symm e), mk_at _ _ _ hi, gs_up_row e]
  · rw [List.getElem?_eq_none (by rw [List.length_set, mk_len]; omega), List.getElem?_eq_none (by rw [mk_len]; omega)]
theorem mk_g {g g' : kw_A} {S : gs_T} {k : Nat} (h : ∀ j, j < k → mr_arr j = true → g' 6 j = g 6 j) : mk_fs g' S k = mk_fs g S k := by
  simp only [mk_fs]
  apply List.map_congr_left
  intro j _
  by_cases a : mr_arr j = true
  · rw [if_pos a, if_pos a]
    by_cases c : j < k
    · rw [if_pos c, if_pos c, h j c a]
    · rw [if_neg c, if_neg c]
  · rw [if_neg a, if_neg a]
theorem mr_tab2 : ∀ k, k < 38 → mr_arr k = true → (TX2 k).2.2.2 = true ∧ (TX2 k).1 = RX2 ∧ parseFieldDescriptor (TX2 k).2.2.1 = some (.array (if k = 19 then .boolean else .int)) := by decide +kernel
section MK
variable {p : Program} {l : Launch} {e : Env} {R : Room} {s : State} {m : MethodId} {args : Array Value} {below : List Frame} {meth : Method} {c : Code} {H : Heap} {locs : List Loc} {cells slots : Nat} {Q : State → Prop}
variable {cc : ByteArray} {pc : Nat} {ls : Array Slot} {rest : List Value} {E : en_T} {A : Nat → Prop} {H0 : Heap} {g : kw_A} {S : gs_T}
/-- newarray and putfield of the model's constructor -/
theorem mk_step (hexec : p.tables.exec = Jvm.exec) (hb : c.code = cc) (hts : ∀ w ∈ lw_all, w.before args s = true) (hown : s.vm.findClass RX2 = some m.cls) (hnm : meth.name = "<init>") (hK : en_K E s) (hS : va_S A H0 H locs) (hA : ∀ q, H0.size ≤ q → A q) {x0 : Nat} (hg : g 0 0 = x0) (k k' : Nat) (hR : kw E (okM k) g (enM E g S k) A H) (hk : k < 38) (ha : mr_arr k = true) (hkk : ∀ j, j < 38 → mr_arr j = true → (j < k' ↔ j < k ∨ j = k)) (hS0 : S k = fun _ => 0)
    {n : Int32} (hn : ¬ n < 0) (hN : n.toNatClampNeg = mr_len k) (hbytes : mr_len k ≤ 1000) (hcells : cells + 1 ≤ R.cells) (hslots : slots + mr_len k ≤ R.slots) (hdg : decode cc pc = .ok (.newarray (if k = 19 then .boolean else .int), 2)) {index : Nat} (hlink : (Cond.fieldLink RX2 index RX2 (TX2 k).2.1 (TX2 k).2.2.1).before args s = true) (hdp : decode cc (pc + 2) = .ok (.putfield index, 3))
    (kk : ∀ (g' : kw_A) (H1 : Heap) (locs1 : List Loc), g' 0 0 = x0 → kw E (okM k') g' (enM E g' S k') A H1 → va_S A H0 H1 locs1 → W p l e R s m args below meth c H1 locs1 (cells + 1) (slots + mr_len k) Q (F0 m (pc + 2 + 3) ls rest)) : W p l e R s m args below meth c H locs cells slots Q (F0 m pc ls (.int n :: .ref x0 :: rest)) := by
  have main : ∀ (q : Nat) (H1 : Heap) (locs1 : List Loc), kw E (fun u j => (u = 6 ∧ j = k) ∨ okM k u j) (fun u j => if u = 6 ∧ j = k then q else g u j) (fun u j => if u = 6 ∧ j = k then .inl (if k = 19 then E.2.2.1 else E.2.1, (mr_len k, .inl (fun _ => 0))) else enM E g S k u j) A H1 → va_S A H0 H1 locs1 → W p l e R s m args below meth c H1 locs1 (cells + 1) (slots + mr_len k) Q (F0 m (pc + 2) ls (.ref q :: .ref x0 :: rest)) := by
    intro q H1 locs1 hR hS
    have hg0 : (ku_ad 6 k q g) 0 0 = x0 := (ku_ad_n (fun z => absurd z.1 (by decide))).trans hg
    have hR1 : kw E (okM k') (ku_ad 6 k q g) (enM E (ku_ad 6 k q g) S k) A H1 := hR.less (fun u j ho => by
      rcases ho with ⟨rfl, rfl⟩ | ⟨rfl, h1, h2⟩
      · refine ⟨Or.inr (Or.inl ⟨rfl, rfl⟩), rfl, ?_⟩
        refine Eq.trans ?_ (if_neg (fun z => absurd z.1 (by decide))).symm
        show (Sum.inr (1, mk_fs _ S k) : va_E) = .inr (1, mk_fs g S k)
        rw [mk_g (fun j hj _ => ku_ad_n (fun z => by omega))]
      · have hj : j < 38 := by
          rcases Nat.lt_or_ge j 38 with q | q
          · exact q
          · exfalso
            unfold mr_arr at h2
            split at h2 <;> simp_all
            omega
        by_cases c : j = k
        · subst c
          refine ⟨Or.inl ⟨rfl, rfl⟩, rfl, ?_⟩
          refine Eq.trans ?_ (if_pos ⟨rfl, rfl⟩).symm
          show (Sum.inl (if j = 19 then E.2.2.1 else E.2.1, (mr_len j, .inl (S j))) : va_E) = _
          rw [hS0]
        · have h3 : j < k := ((hkk j hj h2).mp h1).resolve_right c
          exact ⟨Or.inr (Or.inr ⟨rfl, h3, h2⟩), rfl, (if_neg (fun z => c z.2)).symm⟩)
    have hq : (ku_ad 6 k q g) 6 k = q := ku_ad_s
    generalize ku_ad 6 k q g = g' at hg0 hR1 hq
    rw [← hg0, ← hq]
    obtain ⟨t1, t2, t3⟩ := mr_tab2 k hk ha
    refine kw_put (C := RX2) (T := TX2) (N := 38) hexec hb hts in_X2 tyX2 tyX2_ok nmX2 hown hK hR1 hS 0 0 (Or.inl ⟨rfl, rfl⟩) (show enM E g' S k 0 0 = .inr (1, mk_fs g' S k) from rfl) rfl k hk hlink (fun x h => by rw [t2] at h; exact h) (Or.inr ⟨t1, hnm, t2⟩) t3 (by by_cases c : k = 19 <;> simp [c, narrow]) (by by_cases c : k = 19 <;> simp [c, fits]) (by rw [mk_len]; exact hk) hdp (enM E g' S k') ?_ ?_ (fun H2 locs2 hR2 hS2 => ?_)
    · show (Sum.inr (1, mk_fs g' S k') : va_E) = _
      rw [mk_puta g' S hk ha hkk]
    · intro u j ho hne
      rcases ho with h | ⟨rfl, h1, h2⟩
      · exact absurd h hne
      · rfl
    · exact kk g' H2 locs2 hg0 hR2 hS2
  by_cases c : k = 19
  · subst c
    exact kw_newz hexec hb (hts _ q1066) hK hR hS hA hn hN (Nat.le_of_ble_eq_true rfl) hcells hslots hdg 6 19 (fun q H1 h1 h2 => main q H1 locs h1 h2)
  · rw [if_neg c] at hdg
    refine kw_newi hexec hb (hts _ q97) hK hR hS hA hn hN (show mr_len k * 4 ≤ 536870912 by omega) hcells hslots hdg 6 k (fun q H1 h1 h2 => main q H1 locs ?_ h2)
    rw [if_neg c]
    exact h1
end MK
