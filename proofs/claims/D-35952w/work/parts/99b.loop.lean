/-- the laws of the couplings, all calls' -/
def CLs (CP : gs_T → gs_T → Prop) : Prop := (∀ S M (p1 : Int32) (p2 : Int32), CP S M → cl_P CP ["java/lang/IndexOutOfBoundsException", "java/lang/IllegalArgumentException"] (xp_near S p1 p2) (mf_near M p1 p2).1 (mf_near M p1 p2).2 S) ∧ (∀ S M (p1 : Int32) (p2 : Int32), CP S M → cl_P CP ["java/lang/IndexOutOfBoundsException", "java/lang/IllegalArgumentException"] (xp_alike S p1 p2) (mf_alike M p1 p2).1 (mf_alike M p1 p2).2 S) ∧ (∀ S M (p1 : Int32) (p2 : Int32) (p3 : Int32), CP S M → cl_P CP ["java/lang/IndexOutOfBoundsException", "java/lang/IllegalArgumentException"] (xp_rule S p1 p2 p3) (mf_rule M p1 p2 p3).1 (mf_rule M p1 p2 p3).2 S) ∧ (∀ S M (p1 : Int32) (p2 : Int32), CP S M → cl_P CP ["java/lang/IndexOutOfBoundsException", "java/lang/IllegalStateException"] (xp_stop S p1 p2) (mf_stop M p1 p2).1 (mf_stop M p1 p2).2 S) ∧ (∀ S M (p1 : Int32), CP S M → cl_P CP ["java/lang/IllegalArgumentException"] (xp_threshold S p1) (mf_threshold M p1).1 (mf_threshold M p1).2 S) ∧ (∀ S M (p1 : Int32) (p2 : Int32) (p3 : Int32) (p4 : Int32) (p5 : Int32) (p6 : Int32) (p7 : Int32), CP S M → cl_P CP ["java/lang/IndexOutOfBoundsException", "java/lang/IllegalArgumentException", "java/lang/IllegalStateException"] (xp_find S p1 p2 p3 p4 p5 p6 p7) (mf_find M p1 p2 p3 p4 p5 p6 p7).1 (mf_find M p1 p2 p3 p4 p5 p6 p7).2 S) ∧ (∀ S M (p1 : Int32) (p2 : Int32), CP S M → cl_P CP ["java/lang/IndexOutOfBoundsException", "java/lang/IllegalArgumentException", "java/lang/IllegalStateException"] (xp_see S p1 p2) (mf_see M p1 p2).1 (mf_see M p1 p2).2 S) ∧ (∀ S M (p1 : Int32) (p2 : Int32), CP S M → cl_P CP ["java/lang/IndexOutOfBoundsException", "java/lang/IllegalStateException"] (xp_send S p1 p2) (mf_send M p1 p2).1 (mf_send M p1 p2).2 S) ∧ (∀ S M (p1 : Int32), CP S M → cl_P CP ["java/lang/IndexOutOfBoundsException"] (xp_lose S p1) (mf_lose M p1).1 (mf_lose M p1).2 S) ∧ (∀ S M (p1 : Int32) (p2 : Int32), CP S M → cl_P CP ["java/lang/IndexOutOfBoundsException", "java/lang/IllegalStateException"] (xp_turnUp S p1 p2) (mf_turnUp M p1 p2).1 (mf_turnUp M p1 p2).2 S) ∧ (∀ S M (p1 : Int32) (p2 : Int32), (p2 = 0 ∨ p2 = 1) → CP S M → cl_P CP ["java/lang/IndexOutOfBoundsException", "java/lang/IllegalStateException"] (xp_hold S p1 p2) (mf_hold M p1 p2).1 (mf_hold M p1 p2).2 S) ∧ (∀ S M (p1 : Int32) (p2 : Int32) (p3 : Int32) (p4 : Int32) (p5 : Int32), CP S M → cl_P CP ["java/lang/IndexOutOfBoundsException", "java/lang/IllegalArgumentException", "java/lang/IllegalStateException"] (xp_claim S p1 p2 p3 p4 p5) (mf_claim M p1 p2 p3 p4 p5).1 (mf_claim M p1 p2 p3 p4 p5).2 S) ∧ (∀ S M (p1 : Int32) (p2 : Int32), CP S M → cl_P CP ["java/lang/IndexOutOfBoundsException", "java/lang/IllegalArgumentException", "java/lang/IllegalStateException"] (xp_say S p1 p2) (mf_say M p1 p2).1 (mf_say M p1 p2).2 S) ∧ (∀ S M (p1 : Int32) (p2 : Int32), CP S M → cl_P CP ["java/lang/IndexOutOfBoundsException", "java/lang/IllegalArgumentException", "java/lang/IllegalStateException"] (xp_tell S p1 p2) (mf_tell M p1 p2).1 (mf_tell M p1 p2).2 S) ∧ (∀ S M (p1 : Int32), CP S M → cl_P CP ["java/lang/IndexOutOfBoundsException", "java/lang/IllegalStateException"] (xp_withdraw S p1) (mf_withdraw M p1).1 (mf_withdraw M p1).2 S) ∧ (∀ S M (p1 : Int32) (p2 : Int32), CP S M → cl_P CP ["java/lang/IndexOutOfBoundsException", "java/lang/IllegalStateException"] (xp_release S p1 p2) (mf_release M p1 p2).1 (mf_release M p1 p2).2 S) ∧ (∀ S M (p1 : Int32) (p2 : Int32), CP S M → cl_P CP ["java/lang/IndexOutOfBoundsException", "java/lang/IllegalArgumentException", "java/lang/IllegalStateException"] (xp_extend S p1 p2) (mf_extend M p1 p2).1 (mf_extend M p1 p2).2 S) ∧ (∀ S M (p1 : Int32) (p2 : Int32), CP S M → cl_P CP ["java/lang/IndexOutOfBoundsException", "java/lang/IllegalArgumentException", "java/lang/IllegalStateException"] (xp_sell S p1 p2) (mf_sell M p1 p2).1 (mf_sell M p1 p2).2 S) ∧ (∀ S M (p1 : Int32), CP S M → cl_P CP ["java/lang/IndexOutOfBoundsException", "java/lang/IllegalStateException"] (xp_destroy S p1) (mf_destroy M p1).1 (mf_destroy M p1).2 S) ∧ (∀ S M (p1 : Int32) (p2 : Int32), CP S M → cl_P CP ["java/lang/IndexOutOfBoundsException", "java/lang/IllegalStateException"] (xp_payOut S p1 p2) (mf_payOut M p1 p2).1 (mf_payOut M p1 p2).2 S) ∧ (∀ S M (p1 : Int32), CP S M → cl_P CP ["java/lang/IllegalArgumentException", "java/lang/IllegalStateException"] (xp_pass S p1) (mf_pass M p1).1 (mf_pass M p1).2 S) ∧ (∀ S M, CP S M → S 0 0 = (mf_today M).1 ∧ CP S (mf_today M).2) ∧ (∀ S M (p1 : Int32) (p2 : Int32), CP S M → cl_P CP ["java/lang/IndexOutOfBoundsException"] (xp_fit S p1 p2) (mf_fit M p1 p2).1 (mf_fit M p1 p2).2 S) ∧ (∀ S M (p1 : Int32) (p2 : Int32), CP S M → cl_P CP ["java/lang/IndexOutOfBoundsException"] (xp_candidate S p1 p2) (mf_candidate M p1 p2).1 (mf_candidate M p1 p2).2 S) ∧ (∀ S M (p1 : Int32), CP S M → cl_P CP ["java/lang/IndexOutOfBoundsException"] (xp_question S p1) (mf_question M p1).1 (mf_question M p1).2 S) ∧ (∀ S M (p1 : Int32) (p2 : Int32), CP S M → cl_P CP ["java/lang/IndexOutOfBoundsException"] (xp_isProven S p1 p2) (mf_isProven M p1 p2).1 (mf_isProven M p1 p2).2 S) ∧ (∀ S M (p1 : Int32), CP S M → cl_P CP ["java/lang/IndexOutOfBoundsException"] (xp_isDue S p1) (mf_isDue M p1).1 (mf_isDue M p1).2 S) ∧ (∀ S M (p1 : Int32) (p2 : Int32), CP S M → cl_P CP ["java/lang/IndexOutOfBoundsException", "java/lang/IllegalArgumentException"] (xp_ofFind S p1 p2) (mf_ofFind M p1 p2).1 (mf_ofFind M p1 p2).2 S) ∧ (∀ S M (p1 : Int32) (p2 : Int32) (p3 : Int32), CP S M → cl_P CP ["java/lang/IndexOutOfBoundsException"] (xp_hand S p1 p2 p3) (mf_hand M p1 p2 p3).1 (mf_hand M p1 p2 p3).2 S) ∧ (∀ S M (p1 : Int32) (p2 : Int32), CP S M → cl_P CP ["java/lang/IndexOutOfBoundsException", "java/lang/IllegalArgumentException"] (xp_ofClaim S p1 p2) (mf_ofClaim M p1 p2).1 (mf_ofClaim M p1 p2).2 S) ∧ (∀ S M (p1 : Int32), CP S M → cl_P CP ["java/lang/IllegalArgumentException"] (xp_money S p1) (mf_money M p1).1 (mf_money M p1).2 S) ∧ (∀ S M (p1 : Int32), CP S M → cl_P CP ["java/lang/IndexOutOfBoundsException"] (xp_audit S p1) (mf_audit M p1).1 (mf_audit M p1).2 S)
theorem sw_31 (x : Int32) : ∃ k, k < 32 ∧ x &&& 31 = nI k := by
  refine ⟨(x.toBitVec &&& 31#32).toNat, ?_, ?_⟩
  · rw [BitVec.toNat_and]
    exact Nat.lt_succ_of_le Nat.and_le_right
  · apply Int32.toBitVec_inj.mp
    show x.toBitVec &&& 31#32 = BitVec.ofNat 32 (x.toBitVec &&& 31#32).toNat
    rw [BitVec.ofNat_toNat, BitVec.setWidth_eq]
theorem lp_go {Ln i : Nat} (hL : Ln ≤ 512) (hi : i ≤ 1000) (h : ¬ (nI Ln - 8 < nI i)) : i + 8 ≤ Ln := by
  have e : (nI Ln - 8).toInt = (Ln : Int) - 8 := pk_sub_toInt (a := Ln) (b := 8) (by omega) (by decide)
  rw [Int32.lt_iff_toInt_lt, e, nI_toInt (by omega)] at h
  omega
set_option maxHeartbeats 4000000 in
set_option maxRecDepth 100000 in
theorem law_loop {CP : gs_T → gs_T → Prop} (hCPi : ∀ S M, CP S M → xi_ok S ∧ mi_ok M) (hc : CLs CP) {l : Launch} {p : Program} {e : Env} {s : State} {m : MethodId} {below : List Frame} {meth : Method} {c : Code} {b Ln : Nat} {xs : Nat → Int32} {E : en_T} {C : ex_C} {x0 ym o : Nat} {ad : Nat → Nat} {L : List Nat} (hr : meth.sig.returnType = ret) (hlocks : meth.locks = false) (hE : le_E l p s m meth c b Ln xs E C ym L) :
    ∀ (n k : Nat) (S M : gs_T) (H : Heap) (locs : List Loc) (ls : Array Slot), k + n = 65 → LW CP E C s x0 ym o ad L S M H → va_S (la_9 s) s.heap H locs → lv_has ls 7 [(4, .int (nI (8 * k))), (3, .ref o), (2, .ref ym), (1, .ref x0), (0, .ref b)] → W p l e room_1 s m #[.ref b] below meth c H locs (100 + 870 * k) (2000 + 3850 * k) (lw_Z below #[.ref b] s) (F0 m 23 ls []) := by
  have hE' := hE
  obtain ⟨hx, hb, hml, hown, hts, hX, hbl, hK, hN, hZ, hfl, hL9, hLn⟩ := hE'
  intro n
  induction n with
  | zero =>
    intro k S M H locs ls hk hW hS hl
    refine lv_iload hx hb dL_law_23 (lv_at hl 0 rfl) ?_
    refine lv_aload_n hx hb dL_law_25 rfl (lv_at hl 4 rfl) ?_
    refine va_slen hx hb hX hbl (fun z => absurd hbl (Nat.not_lt.mpr z)) hS dL_law_26 ?_
    refine lv_bipush (v := 8) hx hb dL_law_27 (by decide) ?_
    refine lv_isub hx hb dL_law_29 ?_
    refine lv_icmp_gt (tgt := 2394) hx hb dL_law_30 (by decide) (fun _ => ?_) (fun h => absurd (lp_go (i := 8 * k) hLn (by omega) h) (by omega))
    refine lv_iconst (v := 1) hx hb dL_law_2394 (by decide) ?_
    refine va_forget (fun q hq => hS.2.2 q hq) ?_
    refine W.widen (k := 1200384) (n := 5490858) (by omega) (by omega) ?_
    exact lw_ret hx hb hr hlocks dL_law_2395
  | succ n ih =>
    intro k S M H locs ls hk hW hS hl
    refine lv_iload hx hb dL_law_23 (lv_at hl 0 rfl) ?_
    refine lv_aload_n hx hb dL_law_25 rfl (lv_at hl 4 rfl) ?_
    refine va_slen hx hb hX hbl (fun z => absurd hbl (Nat.not_lt.mpr z)) hS dL_law_26 ?_
    refine lv_bipush (v := 8) hx hb dL_law_27 (by decide) ?_
    refine lv_isub hx hb dL_law_29 ?_
    refine lv_icmp_gt (tgt := 2394) hx hb dL_law_30 (by decide) (fun _ => ?_) (fun h => ?_)
    · refine lv_iconst (v := 1) hx hb dL_law_2394 (by decide) ?_
      refine va_forget (fun q hq => hS.2.2 q hq) ?_
      refine W.widen (k := 1200384) (n := 5490858) (by omega) (by omega) ?_
      exact lw_ret hx hb hr hlocks dL_law_2395
    have hi := lp_go (i := 8 * k) hLn (by omega) h
    refine lv_aload_n hx hb dL_law_33 rfl (lv_at hl 4 rfl) ?_
    refine lv_iload hx hb dL_law_34 (lv_at hl 0 rfl) ?_
    refine va_sld hx hb hX hbl (fun z => absurd hbl (Nat.not_lt.mpr z)) hS (vp_in_nI (by omega) (by omega)) dL_law_36 ?_
    refine lv_bipush (v := 31) hx hb dL_law_37 (by decide) ?_
    refine lv_iand hx hb dL_law_39 ?_
    obtain ⟨q, hq, eq⟩ := sw_31 (xs (nI (8 * k)).toNatClampNeg)
    have hf : (100 + 870 * k) + 870 ≤ 1200384 ∧ (2000 + 3850 * k) + 3850 ≤ 5490858 := by omega
    have next : ∀ (S' M' : gs_T) (H' : Heap) (locs' : List Loc) (ls' : Array Slot), LW CP E C s x0 ym o ad L S' M' H' → va_S (la_9 s) s.heap H' locs' → lv_has ls' 7 [(4, .int (nI (8 * k))), (3, .ref o), (2, .ref ym), (1, .ref x0), (0, .ref b)] → W p l e room_1 s m #[.ref b] below meth c H' locs' (100 + 870 * k + 870) (2000 + 3850 * k + 3850) (lw_Z below #[.ref b] s) (F0 m 2388 ls' []) := by
      intro S' M' H' locs' ls' hW hS hl
      refine lv_iinc (v := nI (8 * (k + 1))) (lv' := [(4, .int (nI (8 * (k + 1)))), (3, .ref o), (2, .ref ym), (1, .ref x0), (0, .ref b)]) hx hb dL_law_2388 hl (k := 0) rfl (nI_add (8 * k) 8) (by decide) rfl (fun ls hl => ?_)
      refine lv_goto (tgt := 23) hx hb dL_law_2391 (by decide) ?_
      refine W.widen (k := 100 + 870 * (k + 1)) (n := 2000 + 3850 * (k + 1)) (by omega) (by omega) ?_
      exact ih (k + 1) S' M' H' locs' ls (by omega) hW hS hl
    match q, hq with
    | 0, _ =>
      refine lv_tableIn (off := 144) (tgt := 184) hx hb dL_law_40 (by rw [eq]; decide) (by rw [eq]; decide) (by rw [eq]; rfl) (by decide) ?_
      exact lc_near hCPi hc.1 hE hi hW hS hl hf next
    | 1, _ =>
      refine lv_tableIn (off := 219) (tgt := 259) hx hb dL_law_40 (by rw [eq]; decide) (by rw [eq]; decide) (by rw [eq]; rfl) (by decide) ?_
      exact lc_alike hCPi hc.2.1 hE hi hW hS hl hf next
    | 2, _ =>
      refine lv_tableIn (off := 294) (tgt := 334) hx hb dL_law_40 (by rw [eq]; decide) (by rw [eq]; decide) (by rw [eq]; rfl) (by decide) ?_
      exact lc_rule hCPi hc.2.2.1 hE hi hW hS hl hf next
    | 3, _ =>
      refine lv_tableIn (off := 374) (tgt := 414) hx hb dL_law_40 (by rw [eq]; decide) (by rw [eq]; decide) (by rw [eq]; rfl) (by decide) ?_
      exact lc_stop hCPi hc.2.2.2.1 hE hi hW hS hl hf next
    | 4, _ =>
      refine lv_tableIn (off := 442) (tgt := 482) hx hb dL_law_40 (by rw [eq]; decide) (by rw [eq]; decide) (by rw [eq]; rfl) (by decide) ?_
      exact lc_threshold hCPi hc.2.2.2.2.1 hE hi hW hS hl hf next
    | 5, _ =>
      refine lv_tableIn (off := 498) (tgt := 538) hx hb dL_law_40 (by rw [eq]; decide) (by rw [eq]; decide) (by rw [eq]; rfl) (by decide) ?_
      exact lc_find hCPi hc.2.2.2.2.2.1 hE hi hW hS hl hf next
    | 6, _ =>
      refine lv_tableIn (off := 630) (tgt := 670) hx hb dL_law_40 (by rw [eq]; decide) (by rw [eq]; decide) (by rw [eq]; rfl) (by decide) ?_
      exact lc_see hCPi hc.2.2.2.2.2.2.1 hE hi hW hS hl hf next
    | 7, _ =>
      refine lv_tableIn (off := 698) (tgt := 738) hx hb dL_law_40 (by rw [eq]; decide) (by rw [eq]; decide) (by rw [eq]; rfl) (by decide) ?_
      exact lc_send hCPi hc.2.2.2.2.2.2.2.1 hE hi hW hS hl hf next
    | 8, _ =>
      refine lv_tableIn (off := 766) (tgt := 806) hx hb dL_law_40 (by rw [eq]; decide) (by rw [eq]; decide) (by rw [eq]; rfl) (by decide) ?_
      exact lc_lose hCPi hc.2.2.2.2.2.2.2.2.1 hE hi hW hS hl hf next
    | 9, _ =>
      refine lv_tableIn (off := 822) (tgt := 862) hx hb dL_law_40 (by rw [eq]; decide) (by rw [eq]; decide) (by rw [eq]; rfl) (by decide) ?_
      exact lc_turnUp hCPi hc.2.2.2.2.2.2.2.2.2.1 hE hi hW hS hl hf next
    | 10, _ =>
      refine lv_tableIn (off := 890) (tgt := 930) hx hb dL_law_40 (by rw [eq]; decide) (by rw [eq]; decide) (by rw [eq]; rfl) (by decide) ?_
      exact lc_hold hCPi hc.2.2.2.2.2.2.2.2.2.2.1 hE hi hW hS hl hf next
    | 11, _ =>
      refine lv_tableIn (off := 981) (tgt := 1021) hx hb dL_law_40 (by rw [eq]; decide) (by rw [eq]; decide) (by rw [eq]; rfl) (by decide) ?_
      exact lc_claim hCPi hc.2.2.2.2.2.2.2.2.2.2.2.1 hE hi hW hS hl hf next
    | 12, _ =>
      refine lv_tableIn (off := 1085) (tgt := 1125) hx hb dL_law_40 (by rw [eq]; decide) (by rw [eq]; decide) (by rw [eq]; rfl) (by decide) ?_
      exact lc_say hCPi hc.2.2.2.2.2.2.2.2.2.2.2.2.1 hE hi hW hS hl hf next
    | 13, _ =>
      refine lv_tableIn (off := 1153) (tgt := 1193) hx hb dL_law_40 (by rw [eq]; decide) (by rw [eq]; decide) (by rw [eq]; rfl) (by decide) ?_
      exact lc_tell hCPi hc.2.2.2.2.2.2.2.2.2.2.2.2.2.1 hE hi hW hS hl hf next
    | 14, _ =>
      refine lv_tableIn (off := 1221) (tgt := 1261) hx hb dL_law_40 (by rw [eq]; decide) (by rw [eq]; decide) (by rw [eq]; rfl) (by decide) ?_
      exact lc_withdraw hCPi hc.2.2.2.2.2.2.2.2.2.2.2.2.2.2.1 hE hi hW hS hl hf next
    | 15, _ =>
      refine lv_tableIn (off := 1277) (tgt := 1317) hx hb dL_law_40 (by rw [eq]; decide) (by rw [eq]; decide) (by rw [eq]; rfl) (by decide) ?_
      exact lc_release hCPi hc.2.2.2.2.2.2.2.2.2.2.2.2.2.2.2.1 hE hi hW hS hl hf next
    | 16, _ =>
      refine lv_tableIn (off := 1345) (tgt := 1385) hx hb dL_law_40 (by rw [eq]; decide) (by rw [eq]; decide) (by rw [eq]; rfl) (by decide) ?_
      exact lc_extend hCPi hc.2.2.2.2.2.2.2.2.2.2.2.2.2.2.2.2.1 hE hi hW hS hl hf next
    | 17, _ =>
      refine lv_tableIn (off := 1413) (tgt := 1453) hx hb dL_law_40 (by rw [eq]; decide) (by rw [eq]; decide) (by rw [eq]; rfl) (by decide) ?_
      exact lc_sell hCPi hc.2.2.2.2.2.2.2.2.2.2.2.2.2.2.2.2.2.1 hE hi hW hS hl hf next
    | 18, _ =>
      refine lv_tableIn (off := 1481) (tgt := 1521) hx hb dL_law_40 (by rw [eq]; decide) (by rw [eq]; decide) (by rw [eq]; rfl) (by decide) ?_
      exact lc_destroy hCPi hc.2.2.2.2.2.2.2.2.2.2.2.2.2.2.2.2.2.2.1 hE hi hW hS hl hf next
    | 19, _ =>
      refine lv_tableIn (off := 1537) (tgt := 1577) hx hb dL_law_40 (by rw [eq]; decide) (by rw [eq]; decide) (by rw [eq]; rfl) (by decide) ?_
      exact lc_payOut hCPi hc.2.2.2.2.2.2.2.2.2.2.2.2.2.2.2.2.2.2.2.1 hE hi hW hS hl hf next
    | 20, _ =>
      refine lv_tableIn (off := 1605) (tgt := 1645) hx hb dL_law_40 (by rw [eq]; decide) (by rw [eq]; decide) (by rw [eq]; rfl) (by decide) ?_
      exact lc_pass hCPi hc.2.2.2.2.2.2.2.2.2.2.2.2.2.2.2.2.2.2.2.2.1 hE hi hW hS hl hf next
    | 21, _ =>
      refine lv_tableIn (off := 1661) (tgt := 1701) hx hb dL_law_40 (by rw [eq]; decide) (by rw [eq]; decide) (by rw [eq]; rfl) (by decide) ?_
      exact lc_today hCPi hc.2.2.2.2.2.2.2.2.2.2.2.2.2.2.2.2.2.2.2.2.2.1 hE hi hW hS hl hf next
    | 22, _ =>
      refine lv_tableIn (off := 1674) (tgt := 1714) hx hb dL_law_40 (by rw [eq]; decide) (by rw [eq]; decide) (by rw [eq]; rfl) (by decide) ?_
      exact lc_fit hCPi hc.2.2.2.2.2.2.2.2.2.2.2.2.2.2.2.2.2.2.2.2.2.2.1 hE hi hW hS hl hf next
    | 23, _ =>
      refine lv_tableIn (off := 1742) (tgt := 1782) hx hb dL_law_40 (by rw [eq]; decide) (by rw [eq]; decide) (by rw [eq]; rfl) (by decide) ?_
      exact lc_candidate hCPi hc.2.2.2.2.2.2.2.2.2.2.2.2.2.2.2.2.2.2.2.2.2.2.2.1 hE hi hW hS hl hf next
    | 24, _ =>
      refine lv_tableIn (off := 1810) (tgt := 1850) hx hb dL_law_40 (by rw [eq]; decide) (by rw [eq]; decide) (by rw [eq]; rfl) (by decide) ?_
      exact lc_question hCPi hc.2.2.2.2.2.2.2.2.2.2.2.2.2.2.2.2.2.2.2.2.2.2.2.2.1 hE hi hW hS hl hf next
    | 25, _ =>
      refine lv_tableIn (off := 1866) (tgt := 1906) hx hb dL_law_40 (by rw [eq]; decide) (by rw [eq]; decide) (by rw [eq]; rfl) (by decide) ?_
      exact lc_isProven hCPi hc.2.2.2.2.2.2.2.2.2.2.2.2.2.2.2.2.2.2.2.2.2.2.2.2.2.1 hE hi hW hS hl hf next
    | 26, _ =>
      refine lv_tableIn (off := 1941) (tgt := 1981) hx hb dL_law_40 (by rw [eq]; decide) (by rw [eq]; decide) (by rw [eq]; rfl) (by decide) ?_
      exact lc_isDue hCPi hc.2.2.2.2.2.2.2.2.2.2.2.2.2.2.2.2.2.2.2.2.2.2.2.2.2.2.1 hE hi hW hS hl hf next
    | 27, _ =>
      refine lv_tableIn (off := 2004) (tgt := 2044) hx hb dL_law_40 (by rw [eq]; decide) (by rw [eq]; decide) (by rw [eq]; rfl) (by decide) ?_
      exact lc_ofFind hCPi hc.2.2.2.2.2.2.2.2.2.2.2.2.2.2.2.2.2.2.2.2.2.2.2.2.2.2.2.1 hE hi hW hS hl hf next
    | 28, _ =>
      refine lv_tableIn (off := 2072) (tgt := 2112) hx hb dL_law_40 (by rw [eq]; decide) (by rw [eq]; decide) (by rw [eq]; rfl) (by decide) ?_
      exact lc_hand hCPi hc.2.2.2.2.2.2.2.2.2.2.2.2.2.2.2.2.2.2.2.2.2.2.2.2.2.2.2.2.1 hE hi hW hS hl hf next
    | 29, _ =>
      refine lv_tableIn (off := 2168) (tgt := 2208) hx hb dL_law_40 (by rw [eq]; decide) (by rw [eq]; decide) (by rw [eq]; rfl) (by decide) ?_
      exact lc_ofClaim hCPi hc.2.2.2.2.2.2.2.2.2.2.2.2.2.2.2.2.2.2.2.2.2.2.2.2.2.2.2.2.2.1 hE hi hW hS hl hf next
    | 30, _ =>
      refine lv_tableIn (off := 2236) (tgt := 2276) hx hb dL_law_40 (by rw [eq]; decide) (by rw [eq]; decide) (by rw [eq]; rfl) (by decide) ?_
      exact lc_money hCPi hc.2.2.2.2.2.2.2.2.2.2.2.2.2.2.2.2.2.2.2.2.2.2.2.2.2.2.2.2.2.2.1 hE hi hW hS hl hf next
    | 31, _ =>
      refine lv_tableIn (off := 2292) (tgt := 2332) hx hb dL_law_40 (by rw [eq]; decide) (by rw [eq]; decide) (by rw [eq]; rfl) (by decide) ?_
      exact lc_audit hCPi hc.2.2.2.2.2.2.2.2.2.2.2.2.2.2.2.2.2.2.2.2.2.2.2.2.2.2.2.2.2.2.2 hE hi hW hS hl hf next
    | q + 32, hq => omega
theorem kw_0 (E : en_T) (A : Nat → Prop) (H : Heap) : kw E (fun _ _ => False) (fun _ _ => 0) (fun _ _ => .inr (0, [])) A H :=
  ⟨[], fun _ => .inr (0, []), fun k x hx => by simp [va_pl] at hx, ⟨fun i j p q hi => by simp [va_pl] at hi, fun k q hk => by simp [va_pl] at hk⟩, fun _ _ h => h.elim, fun _ _ _ _ h => h.elim⟩
theorem k0_comp {E : en_T} {C : ex_C} {A : Nat → Prop} {H : Heap} {q : Nat} (hR : kw E (fun u j => (u = 0 ∧ j = 0) ∨ False) (fun u j => if u = 0 ∧ j = 0 then q else 0) (fun u j => if u = 0 ∧ j = 0 then .inr (0, [.int 0, .null, .null, .null, .null, .null, .int 0, .null, .null, .int 0, .int 0, .int 0]) else .inr (0, [])) A H) : kw E (okK 1) (fun _ _ => q) (enK E C (fun _ _ => q) 1) A H := by
  refine hR.less (fun u j ho => ?_)
  rcases ho with ⟨rfl, rfl⟩ | h | h
  · exact ⟨Or.inl ⟨rfl, rfl⟩, rfl, rfl⟩
  · omega
  · omega
theorem k0_model {E : en_T} {A : Nat → Prop} {H : Heap} {q : Nat} (hR : kw E (fun u j => (u = 0 ∧ j = 0) ∨ False) (fun u j => if u = 0 ∧ j = 0 then q else 0) (fun u j => if u = 0 ∧ j = 0 then .inr (1, mk_fs (fun _ _ => 0) (fun _ _ => 0) 2) else .inr (0, [])) A H) : kw E (okM 2) (fun _ _ => q) (enM E (fun _ _ => q) (fun _ _ => 0) 2) A H := by
  refine hR.less (fun u j ho => ?_)
  rcases ho with ⟨rfl, rfl⟩ | ⟨rfl, h1, h2⟩
  · refine ⟨Or.inl ⟨rfl, rfl⟩, rfl, ?_⟩
    show (Sum.inr (1, mk_fs (fun _ _ => q) (fun _ _ => 0) 2) : va_E) = .inr (1, mk_fs (fun _ _ => 0) (fun _ _ => 0) 2)
    rw [mk_g (g := fun _ _ => 0) (g' := fun _ _ => q) (fun j hj ha => by rcases (show j = 0 ∨ j = 1 by omega) with rfl | rfl <;> cases ha)]
  · rcases (show j = 0 ∨ j = 1 by omega) with rfl | rfl <;> cases h2
theorem va_fg {A : Nat → Prop} {H0 H : Heap} {locs : List Loc} (hS : va_S A H0 H locs) : va_S A H0 H [] := ⟨hS.1, hS.2.1, fun q hq => nomatch hq⟩
theorem va_S_on {s : State} {H H2 : Heap} (hS : va_S (la_9 s) s.heap H []) (h2 : va_S (nw_A H.size) H H2 []) : va_S (la_9 s) s.heap H2 [] := ⟨Nat.le_trans hS.1 h2.1, fun q h1 h3 => (h2.2.1 q (Nat.lt_of_lt_of_le h1 hS.1) (Nat.not_le.mpr (Nat.lt_of_lt_of_le h1 hS.1))).trans (hS.2.1 q h1 h3), fun q hq => nomatch hq⟩
theorem va_S_on2 {s : State} {L : List Nat} {H H2 : Heap} (hS : va_S (la_9 s) s.heap H []) (h2 : va_S (la_A s L) H H2 []) : va_S (la_9 s) s.heap H2 [] := ⟨Nat.le_trans hS.1 h2.1, fun q h1 h3 => (h2.2.1 q (Nat.lt_of_lt_of_le h1 hS.1) (fun z => h3 z.1)).trans (hS.2.1 q h1 h3), fun q hq => nomatch hq⟩
theorem mr_of {E : en_T} {g : kw_A} {M : gs_T} {A : Nat → Prop} {H : Heap} (hR : kw E (okM 38) g (enM E g M 38) A H) : ∃ L : List Nat, (∀ a, a ∈ L → A a) ∧ mr_W E (g 0 0) (g 6) L M H := by
  obtain ⟨L, f, h1, h2, h3, h4⟩ := hR
  have h38 : ∀ k, mr_arr k = true → k < 38 := fun k hk => by
    rcases Nat.lt_or_ge k 38 with q | q
    · exact q
    · exfalso
      unfold mr_arr at hk
      split at hk <;> simp_all
      omega
  have hok : ∀ k, mr_arr k = true → okM 38 6 k := fun k hk => Or.inr ⟨rfl, h38 k hk, hk⟩
  refine ⟨L, fun a ha => ?_, f, h1, pl_dn (pl_nd h2) (fun a h => h), ⟨(h3 0 0 (Or.inl ⟨rfl, rfl⟩)).1, ?_⟩, fun k hk => ⟨(h3 6 k (hok k hk)).1, (h3 6 k (hok k hk)).2⟩, fun j k hj hk e => (h4 6 j 6 k (hok j hj) (hok k hk) e).2⟩
  · obtain ⟨q0, hq⟩ := gl_at (f := f) ha
    exact h2.2 q0 _ hq
  · refine (h3 0 0 (Or.inl ⟨rfl, rfl⟩)).2.trans ?_
    show (Sum.inr (1, mk_fs g M 38) : va_E) = .inr (1, mr_fs (g 6) M)
    have e : mk_fs g M 38 = mr_fs (g 6) M := by
      simp only [mk_fs, mr_fs]
      apply List.map_congr_left
      intro j hj
      rw [if_pos (List.mem_range.mp hj)]
    rw [e]
section LN
variable {p : Program} {l : Launch} {e : Env} {R : Room} {s : State} {m : MethodId} {args : Array Value} {below : List Frame} {meth : Method} {c : Code} {H : Heap} {locs : List Loc} {cells slots : Nat} {Q : State → Prop}
variable {cc bytes : ByteArray} {pc nL maxL index n mc ms : Nat} {ls : Array Slot} {rest st0 As : List Value} {E : en_T} {C : ex_C} {A A0 A1 A2 : Nat → Prop} {y : MethodName} {rm : Room} {P : Prop} {own : String} {X : Heap → Prop} {v : Option Value} {B : Heap → Prop} {b : Nat} {H0 : Heap} {ok : Nat → Nat → Prop} {ad : kw_A} {en : Nat → Nat → va_E}
theorem cq_IA (hK : ex_K E C s) (hZ : ex_H C A s s.heap) (hAA : ∀ a, A0 a → A a) (hS : va_S A0 s.heap H locs) (hA2 : ∀ a, A2 a → A a) (hA2n : ∀ a, H.size ≤ a → A2 a) (hX : X H) (hP : P)
    (hM : Met l y (ws_ y bytes maxL none) rm (cpc E C A2 H.size (.ref b :: As) X P) (cq_Q v B A1) mc ms A1) (hA1 : ∀ a, A1 a → A0 a)
    (Sx : CallFix p m c cc nL s args lw_all own) (cw : CallB R s args own index y bytes maxL none (ws_ y bytes maxL none) rm mc ms n ∧ y.name = "<init>" ∧ (Cond.instanceMethod y).before args s = true)
    (hn : As.length = n) (hsize : ls.size = nL) (hst : st0 = As.reverse ++ .ref b :: rest) (hroom : (rest.map fun v => v.category).sum ≤ 8) (hdg : decode cc pc = .ok (.invokespecial index, 3)) (hf : cells + mc ≤ R.cells ∧ slots + ms ≤ R.slots)
    (kk : ∀ (H1 : Heap) (locs1 : List Loc), B H1 → H.size ≤ H1.size → (∀ q : Nat, q < H.size → ¬ A1 q → H1[q]? = H[q]?) → va_S A0 s.heap H1 locs1 → W p l e R s m args below meth c H1 locs1 (cells + mc) (slots + ms) Q (F0 m (pc + 3) ls (v.toList ++ rest))) : W p l e R s m args below meth c H locs cells slots Q (F0 m pc ls st0) :=
  cq_call (va_runI (As := As) (rest := rest) Sx hM cw ⟨cpc_blind, fun U hU hW => ⟨rfl, ⟨by rw [hU], ex_K.warm hW hK, by
    rw [hU]
    exact ex_H.moved hW.alike ((hZ.kept (fun a h1 h2 => hS.2.1 a h1 (fun z => h2 (hAA a z)))).narrow hA2), hA2n⟩, by rw [hU]; exact hX, hP⟩⟩ rfl hn hsize hst (lv_room hroom) hdg hf) hS (fun q _ h => hA1 q h) hA1 kk
theorem kw_newl (hexec : p.tables.exec = Jvm.exec) (hb : c.code = cc) (harr : (Cond.arrayClass FieldType.long).before args s = true) (hK : en_K E s) (hR : kw E ok ad en A H) (hS : va_S A H0 H locs) (hA : ∀ q, H0.size ≤ q → A q)
    {n : Int32} {N' : Nat} (hn : ¬ n < 0) (hN : n.toNatClampNeg = N') (hbytes : N' * componentBytes .long ≤ 536870912) (hcells : cells + 1 ≤ R.cells) (hslots : slots + N' ≤ R.slots) (hdg : decode cc pc = .ok (.newarray .long, 2)) (t i : Nat)
    (kk : ∀ (q : Nat) (H1 : Heap), kw E (fun u j => (u = t ∧ j = i) ∨ ok u j) (fun u j => if u = t ∧ j = i then q else ad u j) (fun u j => if u = t ∧ j = i then .inl (E.2.2.2.1, N', .inr (.inl (fun _ => 0))) else en u j) A H1 → va_S A H0 H1 locs →
      W p l e R s m args below meth c H1 locs (cells + 1) (slots + N') Q (F0 m (pc + 2) ls (.ref q :: rest))) : W p l e R s m args below meth c H locs cells slots Q (F0 m pc ls (.int n :: rest)) := by
  obtain ⟨L, f, h1, h2, h3, h4⟩ := hR
  refine va_newa (atype := .long) (ty := .long) (a0 := (N', .inr (.inl (fun _ => 0)))) hexec hb harr rfl hK h1 h2 hS hA (fun cA => vp_cell_l cA N' (fun _ => 0)) hn hN hbytes hcells hslots hdg (fun q cA H1 g1 g2 g3 g4 => ?_)
  have hcA : cA = E.2.2.2.1 := by
    have n1 := va_nm_long (g1.2 4 (cA, .long) rfl).2
    have n2 := va_nm_long (hK.2 2 (E.2.2.2.1, .long) rfl).2
    exact Option.some.inj (n1.symm.trans n2)
  subst hcA
  have hq : q ∉ L := va_pl_fresh2 (X := []) g3
  rw [va_pl_push hq] at g2 g3
  obtain ⟨a1, a2⟩ := kw_push (t := t) (i := i) (a := q) (x := .inl (E.2.2.2.1, N', .inr (.inl (fun _ => 0)))) (ok' := fun u j => (u = t ∧ j = i) ∨ ok u j) (ad' := fun u j => if u = t ∧ j = i then q else ad u j) (en' := fun u j => if u = t ∧ j = i then .inl (E.2.2.2.1, N', .inr (.inl (fun _ => 0))) else en u j) hq h3 h4 (by simp) (by simp) (fun u j ho hc => ⟨ho.resolve_left hc, if_neg hc, if_neg hc⟩)
  exact kk q H1 ⟨_, _, g2, g3, a1, a2⟩ g4
end LN
set_option maxHeartbeats 4000000 in
set_option maxRecDepth 100000 in
theorem law_start {CP : gs_T → gs_T → Prop} (hCPi : ∀ S M, CP S M → xi_ok S ∧ mi_ok M) (hc : CLs CP) (hC0 : CP (sI 4) (mS 8)) {p : Program} {e : Env} {s : State} {m : MethodId} {below : List Frame} {meth : Method} {c : Code} (l : Launch) (hflags : l.flags = flags0) {b L : Nat} {xs : Nat → Int32} (hL : L ≤ 512) (C0 : lw_At p s m meth c b L xs) : W p l e room_1 s m #[Value.ref b] below meth c s.heap [] 0 0 (lw_Z below #[Value.ref b] s) (entryFrame m ([Value.ref b] : List Value).toArray 7) := by
  obtain ⟨hx, hb, hr, hml, hown, hts0, hX, hbl, hlocks, hgv⟩ := C0
  obtain ⟨E, C, hK, hN, hZ⟩ := law_env hts0 hgv
  have hts : ∀ w ∈ lw_all, w.before #[Value.ref b] s = true := fun w h => hts0 w (lw_all_tbl h)
  have hA : ∀ a, s.heap.size ≤ a → la_9 s a := fun _ h => h
  have hAA : ∀ a, la_9 s a → la_9 s a := fun _ h => h
  have hl := lv_entry [.ref b] (n := 7) (Nat.le_of_ble_eq_true rfl)
  rw [lg_entry_eq]
  generalize (lg_sl ([.ref b]) ++ List.replicate (7 - (lg_sl ([.ref b])).length) Slot.unset).toArray = ls at hl ⊢
  have hl : lv_has ls 7 [(0, .ref b)] := hl
  have hS : va_S (la_9 s) s.heap s.heap [] := va_S.rf
  have FX : CallFix p m c cL_law 7 s #[Value.ref b] lw_all RX0 := ⟨hx, hb, hml, hown, hts⟩
  -- the component
  refine kw_new (ci := 0) (C := RX1) (T := TX1) (N := 12) (fs := [.int 0, .null, .null, .null, .null, .null, .int 0, .null, .null, .int 0, .int 0, .int 0]) (A := la_9 s) (ok := fun _ _ => False) (ad := fun _ _ => 0) (en := fun _ _ => .inr (0, [])) hx hb hts in_X1 tyX1 tyX1_ok hown (hts _ q60) (hts _ q61) (hts _ q33) hK.1 (kw_0 E (la_9 s) s.heap) hS hA rfl (by intro j hj; rcases (show j = 0 ∨ j = 1 ∨ j = 2 ∨ j = 3 ∨ j = 4 ∨ j = 5 ∨ j = 6 ∨ j = 7 ∨ j = 8 ∨ j = 9 ∨ j = 10 ∨ j = 11 by omega) with rfl | rfl | rfl | rfl | rfl | rfl | rfl | rfl | rfl | rfl | rfl | rfl <;> rfl) (Nat.le_of_ble_eq_true rfl) (Nat.le_of_ble_eq_true rfl) dL_law_0 0 0 (fun h => h) (fun x0 H hq hz hR hS => ?_)
  have hR := k0_comp (C := C) hR
  refine lv_dup hx hb dL_law_3 rfl ?_
  refine cq_I (v := none) (As := []) (rest := [.ref x0]) hK hZ hA hAA hS hR rfl (xt_init l E C (la_9 s) H.size (fun _ _ => x0) x0) (fun _ h => h) FX (cwI 0 hts (lw_meth q64) rfl rfl rfl (hts _ q33) (hts _ q62) (hts _ q63) rfl (by decide +kernel) ⟨Nat.le_of_ble_eq_true rfl, Nat.le_of_ble_eq_true rfl⟩) rfl hl.1 rfl (Nat.le_of_ble_eq_true rfl) dL_law_4 ⟨Nat.le_of_ble_eq_true rfl, Nat.le_of_ble_eq_true rfl⟩ (fun H locs hB hz hk hS => ?_)
  obtain ⟨g, h, hg0, hh, hR⟩ := hB
  refine W.eq (g2 := F0 m 7 ls [.ref x0]) rfl ?_
  refine lv_astore_n (lv' := [(1, .ref x0), (0, .ref b)]) hx hb dL_law_7 rfl hl (by decide) rfl (fun ls hl => ?_)
  refine va_forget (fun q hq => hS.2.2 q hq) ?_
  have hS := va_fg hS
  have hSz := hS.1
  have hR := hR.mono (B := fun a => s.heap.size ≤ a ∧ a < H.size) (fun a h1 h2 => ⟨h1, h2⟩)
  -- the model
  refine kw_new (ci := 1) (C := RX2) (T := TX2) (N := 38) (fs := mk_fs (fun _ _ => 0) (fun _ _ => 0) 2) (A := nw_A H.size) (H0 := H) (ok := fun _ _ => False) (ad := fun _ _ => 0) (en := fun _ _ => .inr (0, [])) hx hb hts in_X2 tyX2 tyX2_ok hown (hts _ q945) (hts _ q946) (hts _ q41) hK.1 (kw_0 E (nw_A H.size) H) va_S.rf (fun _ h => h) rfl (by decide +kernel) (Nat.le_of_ble_eq_true rfl) (Nat.le_of_ble_eq_true rfl) dL_law_8 0 0 (fun h => h) (fun ym H2 hq hz2 hM hS2 => ?_)
  have hM := k0_model hM
  have hR := hR.kept (fun a ha hlt => hS2.2.1 a hlt (Nat.not_le.mpr hlt))
  have hS := va_S_on hS hS2
  refine lv_dup hx hb dL_law_11 rfl ?_
  refine cq_IA (A2 := nw_A H.size) (v := none) (As := []) (rest := [.ref ym]) hK hZ hAA hS (fun a ha => Nat.le_trans hSz ha) (fun a ha => Nat.le_trans hS2.1 ha) hM rfl (mt_init l E C (nw_A H.size) H2.size (fun _ _ => ym) ym) (fun a ha => Nat.le_trans hSz ha) FX (cwI 0 hts (lw_meth q949) rfl rfl rfl (hts _ q41) (hts _ q947) (hts _ q948) rfl (by decide +kernel) ⟨Nat.le_of_ble_eq_true rfl, Nat.le_of_ble_eq_true rfl⟩) rfl hl.1 rfl (Nat.le_of_ble_eq_true rfl) dL_law_12 ⟨Nat.le_of_ble_eq_true rfl, Nat.le_of_ble_eq_true rfl⟩ (fun H3 locs hB hz3 hk3 hS => ?_)
  obtain ⟨g2, hg2, hM⟩ := hB
  have hR := hR.kept (fun a ha hlt => hk3 a hlt (fun z => absurd ha.2 (Nat.not_lt.mpr z)))
  obtain ⟨Lm, hLm, hM⟩ := mr_of hM
  rw [hg2] at hM
  have hR := hR.mono (B := la_A s Lm) (fun a ha _ => ⟨ha.1, fun z => absurd ha.2 (Nat.not_lt.mpr (hLm a z))⟩)
  refine W.eq (g2 := F0 m 15 ls [.ref ym]) rfl ?_
  refine lv_astore_n (lv' := [(2, .ref ym), (1, .ref x0), (0, .ref b)]) hx hb dL_law_15 rfl hl (by decide) rfl (fun ls hl => ?_)
  refine va_forget (fun q hq => hS.2.2 q hq) ?_
  have hS := va_fg hS
  -- out
  refine lv_iconst (v := 1) hx hb dL_law_16 (by decide) ?_
  refine kw_newl (A := la_A s Lm) (H0 := H3) (N' := 1) hx hb (hts _ q1289) hK.1 hR va_S.rf (la_new hS.1 (mr_lt hM)) (by decide) rfl (Nat.le_of_ble_eq_true rfl) (Nat.le_of_ble_eq_true rfl) (Nat.le_of_ble_eq_true rfl) dL_law_17 9 0 (fun o H4 hR hS4 => ?_)
  have hM := hM.kept (fun a ha hlt => hS4.2.1 a hlt (fun z => z.2 ha))
  have hS := va_S_on2 hS hS4
  refine lv_astore_n (lv' := [(3, .ref o), (2, .ref ym), (1, .ref x0), (0, .ref b)]) hx hb dL_law_19 rfl hl (by decide) rfl (fun ls hl => ?_)
  refine lv_iconst (v := 0) hx hb dL_law_20 (by decide) ?_
  refine lv_istore (lv' := [(4, .int 0), (3, .ref o), (2, .ref ym), (1, .ref x0), (0, .ref b)]) hx hb dL_law_21 hl (by decide) rfl (fun ls hl => ?_)
  refine W.widen (k := 100 + 870 * 0) (n := 2000 + 3850 * 0) (Nat.le_of_ble_eq_true rfl) (Nat.le_of_ble_eq_true rfl) ?_
  have hfl : l.stackTraces = false := by
    unfold Launch.stackTraces
    rw [hflags]
    decide +kernel
  exact law_loop hCPi hc hr hlocks ⟨hx, hb, hml, hown, hts, hX, hbl, hK, hN, hZ, hfl, fun a ha => Nat.le_trans hSz (hLm a ha), hL⟩ 65 0 (sI 4) (mS 8) H4 [] ls rfl ⟨hC0, ⟨g, h, fun _ => 0, hg0, hh, nk_mk hR⟩, hM⟩ hS hl
