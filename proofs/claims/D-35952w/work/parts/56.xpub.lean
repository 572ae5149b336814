/-! calls through interfaces -/
theorem fw_add {E : en_T} {C : ex_C} {s : State} (h : ex_K E C s) : va_Fw "java/util/ArrayList" ({ cls := "java/util/List", name := "add", desc := "(Ljava/lang/Object;)Z" } : Jvm.MethodName) yJ2_add s := h.2.2.1 0 (RJ2, yLi "add" "(Ljava/lang/Object;)Z", yJ2_add) rfl
theorem fw_get {E : en_T} {C : ex_C} {s : State} (h : ex_K E C s) : va_Fw "java/util/ArrayList" ({ cls := "java/util/List", name := "get", desc := "(I)Ljava/lang/Object;" } : Jvm.MethodName) yJ2_get s := h.2.2.1 1 (RJ2, yLi "get" "(I)Ljava/lang/Object;", yJ2_get) rfl
theorem fw_size {E : en_T} {C : ex_C} {s : State} (h : ex_K E C s) : va_Fw "java/util/ArrayList" ({ cls := "java/util/List", name := "size", desc := "()I" } : Jvm.MethodName) yJ2_size s := h.2.2.1 2 (RJ2, yLi "size" "()I", yJ2_size) rfl
theorem fw_contains {E : en_T} {C : ex_C} {s : State} (h : ex_K E C s) : va_Fw "java/util/ArrayList" ({ cls := "java/util/List", name := "contains", desc := "(Ljava/lang/Object;)Z" } : Jvm.MethodName) yJ2_contains s := h.2.2.1 3 (RJ2, yLi "contains" "(Ljava/lang/Object;)Z", yJ2_contains) rfl
theorem fw_iterator {E : en_T} {C : ex_C} {s : State} (h : ex_K E C s) : va_Fw "java/util/ArrayList" ({ cls := "java/util/List", name := "iterator", desc := "()Ljava/util/Iterator;" } : Jvm.MethodName) yJ2_iterator s := h.2.2.1 4 (RJ2, yLi "iterator" "()Ljava/util/Iterator;", yJ2_iterator) rfl
theorem fw_remove {E : en_T} {C : ex_C} {s : State} (h : ex_K E C s) : va_Fw "java/util/ArrayList" ({ cls := "java/util/List", name := "remove", desc := "(I)Ljava/lang/Object;" } : Jvm.MethodName) yJ2_remove s := h.2.2.1 5 (RJ2, yLi "remove" "(I)Ljava/lang/Object;", yJ2_remove) rfl
theorem fw_hasNext {E : en_T} {C : ex_C} {s : State} (h : ex_K E C s) : va_Fw "java/util/ArrayList$Itr" ({ cls := "java/util/Iterator", name := "hasNext", desc := "()Z" } : Jvm.MethodName) yJ19_hasNext s := h.2.2.1 6 (RJ19, yIt "hasNext" "()Z", yJ19_hasNext) rfl
theorem fw_next {E : en_T} {C : ex_C} {s : State} (h : ex_K E C s) : va_Fw "java/util/ArrayList$Itr" ({ cls := "java/util/Iterator", name := "next", desc := "()Ljava/lang/Object;" } : Jvm.MethodName) yJ19_next s := h.2.2.1 7 (RJ19, yIt "next" "()Ljava/lang/Object;", yJ19_next) rfl
/-! what the public methods ask -/
theorem xq_in {p : Int32} {n : Nat} (h : xf_isIn p 0 (nI n - 1) = true) (hn : n < 1000) : p.toNatClampNeg < n ∧ p = nI p.toNatClampNeg ∧ ¬ p < 0 := by
  obtain ⟨h0, h1⟩ := of_decide_eq_true h
  obtain ⟨j, hj, rfl⟩ := nI_of h0
  rw [nI_clamp hj]
  refine ⟨?_, rfl, h0⟩
  rcases Nat.eq_zero_or_pos n with rfl | hp
  · refine absurd ?_ h1
    rw [Int32.lt_iff_toInt_lt, nI_toInt hj]
    have : (nI 0 - 1).toInt = -1 := rfl
    omega
  · rw [show (1 : Int32) = nI 1 from rfl, pk_sub hp] at h1
    rcases Nat.lt_or_ge j n with q | q
    · exact q
    · exact absurd ((nI_ltI (by omega) hj).mpr (by omega)) h1
theorem xq_vp {p : Int32} {n : Nat} (h : xf_isIn p 0 (nI n - 1) = true) (hn : n < 1000) : vp_in p n := by
  obtain ⟨h1, h2, -⟩ := xq_in h hn
  rw [h2]
  exact vp_in_nI h1 (by omega)
theorem xq_f {S : gs_T} (hI : xi_ok S) {p : Int32} (h : xf_isIn p 0 ((S 21 1) - 1) = true) : p.toNatClampNeg < nz S 1 ∧ p = nI p.toNatClampNeg ∧ ¬ p < 0 := by
  rw [(xi_fn hI).1] at h
  exact xq_in h (by have := (xi_fn hI).2; omega)
theorem xq_c {S : gs_T} (hI : xi_ok S) {p : Int32} (h : xf_isIn p 0 ((S 21 2) - 1) = true) : p.toNatClampNeg < nz S 2 ∧ p = nI p.toNatClampNeg ∧ ¬ p < 0 := by
  rw [(xi_cn hI).1] at h
  exact xq_in h (by have := (xi_cn hI).2; omega)
theorem nz_up {S : gs_T} {k i z : Nat} {v : Int32} (h : Nat.beq 21 k = false) : nz (gs_up S k i v) z = nz S z := by
  unfold nz
  rw [gs_sk h]
set_option maxHeartbeats 1000000 in
theorem xo_requireKind (l : Launch) (p0 : Int32) : Met l yX1_requireKind (ws_ yX1_requireKind cX1_requireKind 1 none) { frames := 1, cells := 0, slots := 0, locals := 22 } (ps_Pc [.int p0] (xf_isIn p0 0 7 = true)) ps_Qv 0 0 (fun _ => False) := by
  refine ps_start (by decide) (Nat.le_of_ble_eq_true rfl) ?_
  intro p e s m below meth c ls hx hb hr hlocks hml hown hts hP hl
  have hl : lv_has ls 1 [(0, .int p0)] := hl
  have hS : va_S (fun _ => False) s.heap s.heap [] := va_S.rf
  refine lv_iload_n hx hb dX1_requireKind_0 rfl (lv_at hl 0 rfl) ?_
  refine lv_iconst (v := 0) hx hb dX1_requireKind_1 (by decide) ?_
  refine lv_bipush (v := 7) hx hb dX1_requireKind_2 (by decide) ?_
  refine ps_calli (As := [.int p0, .int 0, .int 7]) (rest := []) ⟨hx, hb, hml, hown, hts⟩ (xt_isIn l p0 0 7) (va_cwS 3 hts (lw_S q295 q296 q33 q297) rfl rfl rfl (by decide +kernel) ⟨Nat.le_of_ble_eq_true rfl, Nat.le_of_ble_eq_true rfl⟩) trivial hS rfl hl.1 rfl (Nat.le_of_ble_eq_true rfl) dX1_requireKind_4 ⟨Nat.zero_le _, Nat.zero_le _⟩ (fun H locs hz hk hS => ?_)
  refine ps_callv (As := [.int (gs_bz (xf_isIn p0 0 7))]) (rest := []) ⟨hx, hb, hml, hown, hts⟩ (xo_requireIndex l (gs_bz (xf_isIn p0 0 7))) (va_cwS 1 hts (lw_S q298 q299 q33 q300) rfl rfl rfl (by decide +kernel) ⟨Nat.le_of_ble_eq_true rfl, Nat.le_of_ble_eq_true rfl⟩) (by rw [hP]; rfl) hS rfl hl.1 rfl (Nat.le_of_ble_eq_true rfl) dX1_requireKind_7 ⟨Nat.zero_le _, Nat.zero_le _⟩ (fun H locs hz hk hS => ?_)
  exact W.vret hx hb hr (fun t ht hW => ⟨⟨(), rfl, trivial, trivial⟩, hS.F ht⟩) hS.2.2 dX1_requireKind_10
set_option maxHeartbeats 1000000 in
theorem xt_requireKind (l : Launch) (hfl : l.stackTraces = false) (E : en_T) (C : ex_C) (A : Nat → Prop) (sz : Nat) (p0 : Int32) : vx_Met l yX1_requireKind (ws_ yX1_requireKind cX1_requireKind 1 none) { frames := 7, cells := 1, slots := 6, locals := 120 } (cpc E C A sz [.int p0] (fun _ => True) (¬ xf_isIn p0 0 7 = true)) cx_N (cx_X (fun _ => True) (nw_A sz) "java/lang/IndexOutOfBoundsException") 1 6 (nw_A sz) := by
  refine cx_start (by decide) (Nat.le_of_ble_eq_true rfl) ?_
  intro p e s m below meth c ls hx hb hr hlocks hml hown hnm hnt hts hsz hK hZ hA hR hP hl
  subst hsz
  have hAA : ∀ a, nw_A s.heap.size a → A a := hA
  have hl : lv_has ls 1 [(0, .int p0)] := hl
  have hS : va_S (nw_A s.heap.size) s.heap s.heap [] := va_S.rf
  refine lv_iload_n hx hb dX1_requireKind_0 rfl (lv_at hl 0 rfl) ?_
  refine lv_iconst (v := 0) hx hb dX1_requireKind_1 (by decide) ?_
  refine lv_bipush (v := 7) hx hb dX1_requireKind_2 (by decide) ?_
  refine ps_calli (As := [.int p0, .int 0, .int 7]) (rest := []) ⟨hx, hb, hml, hown, hts⟩ (xt_isIn l p0 0 7) (va_cwS 3 hts (lw_S q295 q296 q33 q297) rfl rfl rfl (by decide +kernel) ⟨Nat.le_of_ble_eq_true rfl, Nat.le_of_ble_eq_true rfl⟩) trivial hS rfl hl.1 rfl (Nat.le_of_ble_eq_true rfl) dX1_requireKind_4 ⟨Nat.zero_le _, Nat.zero_le _⟩ (fun H locs hz hk hS => ?_)
  refine W.eq (g2 := F0 m 7 ls [.int 0]) (by rw [Bool.eq_false_iff.mpr hP]; rfl) ?_
  refine cx_S (X := fun _ => True) (P := True) (As := [.int 0]) (rest := []) hK hZ hA hAA hS trivial trivial (xt_requireIndex l hfl E C A H.size) (fun _ h => Nat.le_trans hS.1 h) ⟨hx, hb, hml, hown, hts⟩ (va_cwS 1 hts (lw_S q298 q299 q33 q300) rfl rfl rfl (by decide +kernel) ⟨Nat.le_of_ble_eq_true rfl, Nat.le_of_ble_eq_true rfl⟩) rfl hl.1 rfl (Nat.le_of_ble_eq_true rfl) dX1_requireKind_7 ⟨Nat.le_of_ble_eq_true rfl, Nat.le_of_ble_eq_true rfl⟩ (fun ce q9 H locs hB hz hk hS hc9 hv9 hcl => ?_)
  exact vx_out (fun x h => (hnt x h).elim) hlocks hc9 hv9 hcl (fun t ht _ => ⟨⟨rfl, trivial⟩, hS.F ht⟩) hS.2.2 (Nat.le_of_ble_eq_true rfl) (Nat.le_of_ble_eq_true rfl)
theorem xq_vp24 {p : Int32} (h : xf_isIn p 0 23 = true) : vp_in p 24 := xq_vp (n := 24) (by rw [show (nI 24 - 1 : Int32) = 23 from by decide]; exact h) (by decide)
theorem xq_vp8 {p : Int32} (h : xf_isIn p 0 7 = true) : vp_in p 8 := xq_vp (n := 8) (by rw [show (nI 8 - 1 : Int32) = 7 from by decide]; exact h) (by decide)
theorem xq_vp6 {p : Int32} (h : xf_isIn p 0 5 = true) : vp_in p 6 := xq_vp (n := 6) (by rw [show (nI 6 - 1 : Int32) = 5 from by decide]; exact h) (by decide)
theorem xq_vp4 {p : Int32} (h : xf_isIn p 0 3 = true) : vp_in p 4 := xq_vp (n := 4) (by rw [show (nI 4 - 1 : Int32) = 3 from by decide]; exact h) (by decide)
theorem xq_vp10 {p : Int32} (h : xf_isIn p 0 9 = true) : vp_in p 10 := xq_vp (n := 10) (by rw [show (nI 10 - 1 : Int32) = 9 from by decide]; exact h) (by decide)
theorem xq_vp12 {p : Int32} (h : xf_isIn p 0 11 = true) : vp_in p 12 := xq_vp (n := 12) (by rw [show (nI 12 - 1 : Int32) = 11 from by decide]; exact h) (by decide)
theorem xq_place {p : Int32} (h : xf_isPlace p = true) : vp_in p 10 := xq_vp10 (of_decide_eq_true h)
theorem xq_h {S : gs_T} (hI : xi_ok S) {i : Nat} (hi : i < nz S 1) {p : Int32} (h : xf_isIn p 0 ((S 21 (7 + i)) - 1) = true) : xok S 5 (16 * i + p.toNatClampNeg) ∧ ¬ p < 0 ∧ p < S 21 (7 + i) ∧ ∀ (C : ex_C) (g : kw_A), xel C g S (7 + i) p.toNatClampNeg = g 5 (16 * i + p.toNatClampNeg) := by
  obtain ⟨⟨a1, a2, a3, a4, a5⟩, -⟩ := hI.2.2.2.2.1 i hi
  rw [a1] at h
  obtain ⟨b1, b2, b3⟩ := xq_in h (by omega)
  refine ⟨?_, b3, ?_, fun C g => ?_⟩
  · show (16 * i + p.toNatClampNeg) / 16 < nz S 1 ∧ (16 * i + p.toNatClampNeg) % 16 < nz S (7 + (16 * i + p.toNatClampNeg) / 16)
    rw [show (16 * i + p.toNatClampNeg) / 16 = i by omega, show (16 * i + p.toNatClampNeg) % 16 = p.toNatClampNeg by omega]
    exact ⟨hi, b1⟩
  · rw [a1, b2]
    exact nI_lt b1 (by omega)
  · unfold xel
    rw [if_neg (by omega), if_neg (by omega), if_neg (by omega), if_neg (by omega), show 7 + i - 7 = i by omega]
/-! candidate's rounds -/
def cd_N (p : Int32) : Nat := min (p.toNatClampNeg + 1) 31
theorem cd_p {p : Int32} (h : ¬ p < 0) : ∃ j, j < 2 ^ 31 ∧ p = nI j := nI_of h
theorem cd_1 {p : Int32} (h0 : ¬ p < 0) {i : Nat} (h : i < cd_N p) : ¬ p < nI i := by
  obtain ⟨j, hj, rfl⟩ := cd_p h0
  unfold cd_N at h
  rw [nI_clamp hj] at h
  exact fun z => by have := (nI_ltI hj (by omega)).mp z; omega
theorem cd_2 {p : Int32} {i : Nat} (h : i < cd_N p) : ¬ (30 : Int32) < nI i := by
  unfold cd_N at h
  exact fun z => by have := (nI_ltI (a := 30) (by decide) (by omega)).mp z; omega
theorem cd_3 {p : Int32} (h0 : ¬ p < 0) (h : ¬ p < nI (cd_N p)) : (30 : Int32) < nI (cd_N p) := by
  obtain ⟨j, hj, rfl⟩ := cd_p h0
  unfold cd_N at h ⊢
  rw [nI_clamp hj] at h ⊢
  refine nI_lt (a := 30) ?_ (by omega)
  rcases Nat.lt_or_ge 30 (min (j + 1) 31) with q | q
  · exact q
  · exact absurd (nI_lt (show j < min (j + 1) 31 by omega) (by omega)) h
theorem cd_if {φ : Prop} [Decidable φ] {n i : Nat} {x : Int32} (hx : x = -1 ∨ ∃ b, b < n ∧ x = nI b) (hi : i < n) : (if φ then nI i else x) = -1 ∨ ∃ b, b < n ∧ (if φ then nI i else x) = nI b := by
  by_cases h : φ
  · rw [if_pos h]; exact Or.inr ⟨i, hi, rfl⟩
  · rw [if_neg h]; exact hx
theorem cd_ix {n : Nat} {x : Int32} (hx : x = -1 ∨ ∃ b, b < n ∧ x = nI b) (h : ¬ x = (-1)) (hn : n ≤ 1000) : x.toNatClampNeg < n ∧ ¬ x < 0 ∧ x < nI n := by
  obtain ⟨b, hb, rfl⟩ := hx.resolve_left h
  rw [nI_clamp (by omega)]
  exact ⟨hb, nI_nn (by omega), nI_lt hb (by omega)⟩
