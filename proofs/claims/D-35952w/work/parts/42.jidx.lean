/-- what a list of cached ints holds: n of them, boxes vs 0 .. -/
def il_P (E : en_T) (C : ex_C) (ok : Nat → Nat → Prop) (ad : kw_A) (en : Nat → Nat → va_E) (z : Nat) (mc : Int32) (k ea cap : Nat) (h : Nat → Option Nat) (vs : Nat → Nat) : Prop :=
  ok 1 z ∧ en 1 z = .inr (5, [.int mc, .ref ea, .int (nI k)]) ∧ k ≤ 100 ∧ (0 < k → ea = ad 2 z ∧ ok 2 z ∧ en 2 z = .inl (E.2.2.2.2, cap, .inr (.inr (.inr (.inr h)))) ∧ k ≤ cap ∧ cap < 2 ^ 31) ∧ ∀ j, j < k → h j = some (C.1 (vs j)) ∧ vs j < 256
set_option maxHeartbeats 2000000 in
theorem jt_idxR (l : Launch) (E : en_T) (C : ex_C) (A : Nat → Prop) (sz : Nat) (ok : Nat → Nat → Prop) (ad : kw_A) (en : Nat → Nat → va_E) (z : Nat) (mc : Int32) (k ea cap : Nat) (h : Nat → Option Nat) (vs : Nat → Nat) (w : Nat) : Met l yJ2_indexOfRange (ws_ yJ2_indexOfRange cJ2_indexOfRange 6 (some .int)) { frames := 2, cells := 0, slots := 0, locals := 41 } (cpc E C A sz [.ref (ad 1 z), .ref (C.1 w), .int 0, .int (nI k)] (kw E ok ad en A) (il_P E C ok ad en z mc k ea cap h vs ∧ w < 256)) (cq_Q (some (.int (jf_idx vs w k 0))) (fun _ => True) (nw_A sz)) 0 0 (nw_A sz) := by
  refine cq_start (by decide) (Nat.le_of_ble_eq_true rfl) ?_
  intro p e s m below meth c ls hx hb hr hlocks hml hown hnm hts hsz hK hZ hA hR hP hl
  subst hsz
  have hAA : ∀ a, nw_A s.heap.size a → A a := hA
  have hl : lv_has ls 6 [(0, .ref (ad 1 z)), (1, .ref (C.1 w)), (2, .int 0), (3, .int (nI k))] := hl
  have hS : va_S (nw_A s.heap.size) s.heap s.heap [] := va_S.rf
  have hZr := hZ.fresh
  obtain ⟨⟨h_o1, h_e1, h_k, h_a, h_v⟩, h_w⟩ := hP
  refine lv_aload_n hx hb dJ2_indexOfRange_0 rfl (lv_at hl 0 rfl) ?_
  refine kw_get (C := RJ2) (T := TJ2) (N := 3) (v := .ref ea) hx hb hts in_J2 hown hK.1 hR 1 z h_o1 h_e1 rfl 1 (by decide) (hts _ q82) (fun _ h9 => h9) rfl dJ2_indexOfRange_1 ?_
  refine lv_astore (lv' := [(4, .ref ea), (0, .ref (ad 1 z)), (1, .ref (C.1 w)), (2, .int 0), (3, .int (nI k))]) hx hb dJ2_indexOfRange_4 hl (by decide) rfl (fun ls hl => ?_)
  refine lv_aload_n hx hb dJ2_indexOfRange_6 rfl (lv_at hl 2 rfl) ?_
  refine lv_ifnonnull (tgt := 39) hx hb dJ2_indexOfRange_7 (by decide) ?_
  refine lv_iload_n hx hb dJ2_indexOfRange_39 rfl (lv_at hl 3 rfl) ?_
  refine lv_istore (lv' := [(5, .int 0), (4, .ref ea), (0, .ref (ad 1 z)), (1, .ref (C.1 w)), (2, .int 0), (3, .int (nI k))]) hx hb dJ2_indexOfRange_40 hl (by decide) rfl (fun ls hl => ?_)
  have hL : ∀ (n i : Nat) (H : Heap) (locs : List Loc) (ls : Array Slot), i + n = k → jf_idx vs w n i = jf_idx vs w k 0 → kw E ok ad en A H → va_S (nw_A s.heap.size) s.heap H locs → lv_has ls 6 [(5, .int (nI i)), (4, .ref ea), (1, .ref (C.1 w)), (3, .int (nI k))] → cq_G p l e { frames := 2, cells := 0, slots := 0, locals := 41 } s m [.ref (ad 1 z), .ref (C.1 w), .int 0, .int (nI k)] below meth c (nw_A s.heap.size) (cq_Q (some (.int (jf_idx vs w k 0))) (fun _ => True) (nw_A s.heap.size)) 0 0 H locs 0 0 (F0 m 42 ls []) := by
    intro n
    induction n with
    | zero =>
      intro i H locs ls hi hf hR hS hl
      have hi : i = k := hi
      subst hi
      refine lv_iload hx hb dJ2_indexOfRange_42 (lv_at hl 0 rfl) ?_
      refine lv_iload_n hx hb dJ2_indexOfRange_44 rfl (lv_at hl 3 rfl) ?_
      refine lv_icmp_ge (tgt := 69) hx hb dJ2_indexOfRange_45 (by decide) (fun c_1 => ?_) (fun c_1 => absurd (Int32.le_refl _) c_1)
      refine lv_iconst (v := (-1)) hx hb dJ2_indexOfRange_69 (by decide) ?_
      exact W.iret (v := (-1)) hx hb hr (fun t ht hW => ⟨⟨congrArg (fun z => Outcome.returned (some (Value.int z))) hf, trivial⟩, hS.F ht⟩) hS.2.2 dJ2_indexOfRange_70
    | succ n ih =>
      intro i H locs ls hi hf hR hS hl
      have hlt : i < k := by omega
      obtain ⟨g1, g2, g3, g4, g5⟩ := h_a (by omega)
      obtain ⟨v1, v2⟩ := h_v i hlt
      refine lv_iload hx hb dJ2_indexOfRange_42 (lv_at hl 0 rfl) ?_
      refine lv_iload_n hx hb dJ2_indexOfRange_44 rfl (lv_at hl 3 rfl) ?_
      refine lv_icmp_ge (tgt := 69) hx hb dJ2_indexOfRange_45 (by decide) (fun c_1 => absurd c_1 (nI_ge hlt (by omega))) (fun c_1 => ?_)
      refine lv_aload_n hx hb dJ2_indexOfRange_48 rfl (lv_at hl 2 rfl) ?_
      refine lv_aload hx hb dJ2_indexOfRange_49 (lv_at hl 1 rfl) ?_
      refine lv_iload hx hb dJ2_indexOfRange_51 (lv_at hl 0 rfl) ?_
      subst g1
      refine kw_aald (v := .ref (C.1 (vs i))) hx hb hK.1 hR 2 z g2 g3 (vp_in_nI (by omega) g5) (by rw [nI_clamp (by omega), v1]; rfl) dJ2_indexOfRange_53 ?_
      refine cq_U (x := ⟨"java/lang/Object", "equals", "(Ljava/lang/Object;)Z"⟩) (v := (some (.int (gs_bz (decide ((vb_c w) = (vb_c (vs i)))))))) (As := [.ref (C.1 (vs i))]) (rest := []) hK hZ hA hAA hS trivial ⟨h_w, v2⟩ (jt_equalsI l E C A H.size w (vs i)) (fun _ h => Nat.le_trans hS.1 h) ⟨hx, hb, hml, hown, hts⟩ (va_cwA 1 hts (lw_U q435 q437 q449 q450 q52 q451) rfl rfl rfl (hK.2.1 _ q434 rfl) (by decide +kernel) ⟨Nat.le_of_ble_eq_true rfl, Nat.le_of_ble_eq_true rfl⟩) (ic_recv hZr hS h_w) rfl hl.1 rfl (Nat.le_of_ble_eq_true rfl) dJ2_indexOfRange_54 ⟨Nat.zero_le _, Nat.zero_le _⟩ (fun H locs hB hz hk hS => ?_)
      have hR := hR.kept (fun a _ h => hk a h (Nat.not_le.mpr h))
      refine W.eq (g2 := F0 m 57 ls [.int (if (vb_c w) = (vb_c (vs i)) then 1 else 0)]) (by rw [gs_bz_dec]; rfl) ?_
      refine lv_if_eq (tgt := 63) hx hb dJ2_indexOfRange_57 (by decide) (fun c_2 => ?_) (fun c_2 => ?_)
      · have c_2 := gs_zf c_2
        have hne : ¬ vs i = w := fun z => c_2 (by rw [z])
        refine lv_iinc (v := nI (i + 1)) (lv' := [(5, .int (nI (i + 1))), (4, .ref (ad 2 z)), (1, .ref (C.1 w)), (3, .int (nI k))]) hx hb dJ2_indexOfRange_63 hl (k := 0) rfl (nI_1 i) (by decide) rfl (fun ls hl => ?_)
        refine lv_goto (tgt := 42) hx hb dJ2_indexOfRange_66 (by decide) ?_
        exact ih (i + 1) _ _ _ (by omega) ((if_neg hne).symm.trans hf) hR hS hl
      · have c_2 := gs_zt c_2
        have he : vs i = w := ((vb_inj h_w v2).mp c_2).symm
        refine lv_iload hx hb dJ2_indexOfRange_60 (lv_at hl 0 rfl) ?_
        exact W.iret (v := nI i) hx hb hr (fun t ht hW => ⟨⟨congrArg (fun z => Outcome.returned (some (Value.int z))) ((if_pos he).symm.trans hf), trivial⟩, hS.F ht⟩) hS.2.2 dJ2_indexOfRange_62
  exact hL k 0 _ _ _ (by omega) rfl hR hS (lv_sub hl [0, 1, 3, 5] rfl)
