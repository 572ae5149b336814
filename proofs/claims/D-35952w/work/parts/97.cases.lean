/-! the law's cases -/
section SC
variable {p : Program} {l : Launch} {e : Env} {R : Room} {s : State} {m : MethodId} {args : Array Value} {below : List Frame} {meth : Method} {c : Code} {H : Heap} {locs : List Loc} {cells slots : Nat} {Q : State → Prop} {cc : ByteArray} {pc : Nat} {ls : Array Slot} {rest : List Value}
theorem sc_ld {b Ln i j : Nat} {xs : Nat → Int32} (hx : p.tables.exec = Jvm.exec) (hb : c.code = cc) (hX : va_X b Ln xs s s.heap) (hbl : b < s.heap.size) (hS : va_S (la_9 s) s.heap H locs) (hj : i + j < Ln) (hLn : Ln ≤ 512) (d1 : decode cc pc = .ok (.iadd, 1)) (d2 : decode cc (pc + 1) = .ok (.iaload, 1))
    (kk : W p l e R s m args below meth c H locs cells slots Q (F0 m (pc + 2) ls (.int (xs (i + j)) :: rest))) : W p l e R s m args below meth c H locs cells slots Q (F0 m pc ls (.int (nI j) :: .int (nI i) :: .ref b :: rest)) := by
  refine lv_iadd hx hb d1 ?_
  rw [nI_add]
  refine va_sld hx hb hX hbl (fun z => absurd hbl (Nat.not_lt.mpr z)) hS (vp_in_nI hj (by omega)) d2 ?_
  rw [nI_clamp (by omega)]
  exact kk
theorem sc_ne {x : Int32} (hx : p.tables.exec = Jvm.exec) (hb : c.code = cc) (d0 : decode cc pc = .ok (.ifCond .eq 7, 3)) (d1 : decode cc (pc + 3) = .ok (.iconst 1, 1)) (d2 : decode cc (pc + 4) = .ok (.goto 4, 3)) (d3 : decode cc (pc + 7) = .ok (.iconst 0, 1))
    (kk : W p l e R s m args below meth c H locs cells slots Q (F0 m (pc + 8) ls (.int (if x = 0 then (0 : Int32) else 1) :: rest))) : W p l e R s m args below meth c H locs cells slots Q (F0 m pc ls (.int x :: rest)) := by
  refine lv_if_eq (tgt := pc + 7) hx hb d0 (by omega) (fun h => ?_) (fun h => ?_)
  · refine lv_iconst (v := 0) hx hb d3 (by decide) ?_
    rw [if_pos h] at kk
    exact kk
  · refine lv_iconst (v := 1) hx hb d1 (by decide) ?_
    refine lv_goto (tgt := pc + 8) hx hb d2 (by omega) ?_
    rw [if_neg h] at kk
    exact kk
end SC
theorem sc_z {x : Int32} : (if x = 0 then (0 : Int32) else 1) = 0 ∨ (if x = 0 then (0 : Int32) else 1) = 1 := by
  by_cases h : x = 0
  · rw [if_pos h]; exact Or.inl rfl
  · rw [if_neg h]; exact Or.inr rfl

set_option maxHeartbeats 2000000 in
set_option maxRecDepth 100000 in
theorem lc_near {CP : gs_T → gs_T → Prop} (hCPi : ∀ S M, CP S M → xi_ok S ∧ mi_ok M) (hc : ∀ S M (p1 : Int32) (p2 : Int32), CP S M → cl_P CP ["java/lang/IndexOutOfBoundsException", "java/lang/IllegalArgumentException"] (xp_near S p1 p2) (mf_near M p1 p2).1 (mf_near M p1 p2).2 S) {l : Launch} {p : Program} {e : Env} {s : State} {m : MethodId} {below : List Frame} {meth : Method} {c : Code} {H : Heap} {locs : List Loc} {cells slots : Nat} {Q : State → Prop} {ls : Array Slot} {b Ln i : Nat} {xs : Nat → Int32} {E : en_T} {C : ex_C} {x0 ym o : Nat} {ad : Nat → Nat} {L : List Nat} {S M : gs_T} (hE : le_E l p s m meth c b Ln xs E C ym L) (hi : i + 8 ≤ Ln) (hW : LW CP E C s x0 ym o ad L S M H) (hS : va_S (la_9 s) s.heap H locs) (hl : lv_has ls 7 [(4, .int (nI i)), (3, .ref o), (2, .ref ym), (1, .ref x0), (0, .ref b)]) (hf : cells + 870 ≤ 1200384 ∧ slots + 3850 ≤ 5490858) (kk : ∀ (S' M' : gs_T) (H' : Heap) (locs' : List Loc) (ls' : Array Slot), LW CP E C s x0 ym o ad L S' M' H' → va_S (la_9 s) s.heap H' locs' → lv_has ls' 7 [(4, .int (nI i)), (3, .ref o), (2, .ref ym), (1, .ref x0), (0, .ref b)] → W p l e room_1 s m #[.ref b] below meth c H' locs' (cells + 870) (slots + 3850) Q (F0 m 2388 ls' [])) : W p l e room_1 s m #[.ref b] below meth c H locs cells slots Q (F0 m 184 ls []) := by
  obtain ⟨hx, hb, hml, hown, hts, hX, hbl, hK, hN, hZ, hfl, hL9, hLn⟩ := hE
  obtain ⟨hCP, ⟨g, h, v, hg0, hh, hR⟩, hM⟩ := hW
  obtain ⟨hI, hmi⟩ := hCPi S M hCP
  subst hg0
  refine lv_aload_n hx hb dL_law_184 rfl (lv_at hl 3 rfl) ?_
  refine lv_aload_n hx hb dL_law_185 rfl (lv_at hl 4 rfl) ?_
  refine lv_iload hx hb dL_law_186 (lv_at hl 0 rfl) ?_
  refine lv_iconst (v := nI 1) hx hb dL_law_188 (by decide) ?_
  refine sc_ld hx hb hX hbl hS (show i + 1 < Ln by omega) hLn dL_law_189 dL_law_190 ?_
  refine lv_aload_n hx hb dL_law_191 rfl (lv_at hl 4 rfl) ?_
  refine lv_iload hx hb dL_law_192 (lv_at hl 0 rfl) ?_
  refine lv_iconst (v := nI 2) hx hb dL_law_194 (by decide) ?_
  refine sc_ld hx hb hX hbl hS (show i + 2 < Ln by omega) hLn dL_law_195 dL_law_196 ?_
  refine lv_aload_n hx hb dL_law_197 rfl (lv_at hl 1 rfl) ?_
  have hcl := hc S M (xs (i + 1)) (xs (i + 2)) hCP
  have hmz : mi_ok M := hmi
  refine ls_S (As := [.ref (g 0 0), .int (xs (i + 1)), .int (xs (i + 2)), .ref o]) (rest := []) hK hN hZ hS (fun _ h => h.1) (la_new hS.1 (mr_lt hM)) hR ⟨hI, hh⟩ (wt_near l hfl E C (la_A s L) H.size g h S o v (xs (i + 1)) (xs (i + 2))) ⟨hx, hb, hml, hown, hts⟩ (vx_cwSW 4 hts (lw_SW q210 q211 q32 q212) rfl rfl rfl (by decide +kernel) ⟨Nat.le_of_ble_eq_true rfl, Nat.le_of_ble_eq_true rfl⟩) rfl hl.1 rfl (Nat.le_of_ble_eq_true rfl) dL_law_198 ⟨(show _ ≤ 1200384 by omega), (show _ ≤ 5490858 by omega)⟩ (fun Xn ix v' H locs hxn hix hR hz hk hS => ?_) (fun r S' g' h' v' H locs hxn hg0 hh' hv' hR hz hk hS => ?_)
  · have hM := hM.kept (fun a ha hlt => hk a hlt (fun z => z.2 ha))
    obtain ⟨j, hj, ht, hCP2⟩ := hcl.1 Xn hxn
    have ej := li_ne (by decide) hix hj
    rw [← ej] at ht
    refine lv_istore (lv' := [(5, .int (nI (ix + 1))), (4, .int (nI i)), (3, .ref o), (2, .ref ym), (1, .ref (g 0 0)), (0, .ref b)]) hx hb dL_law_201 hl (by decide) rfl (fun ls hl => ?_)
    refine lv_aload_n hx hb dL_law_203 rfl (lv_at hl 3 rfl) ?_
    refine lv_aload_n hx hb dL_law_204 rfl (lv_at hl 5 rfl) ?_
    refine lv_iload hx hb dL_law_205 (lv_at hl 1 rfl) ?_
    refine lv_iconst (v := nI 1) hx hb dL_law_207 (by decide) ?_
    refine sc_ld hx hb hX hbl hS (show i + 1 < Ln by omega) hLn dL_law_208 dL_law_209 ?_
    refine lv_aload_n hx hb dL_law_210 rfl (lv_at hl 5 rfl) ?_
    refine lv_iload hx hb dL_law_211 (lv_at hl 1 rfl) ?_
    refine lv_iconst (v := nI 2) hx hb dL_law_213 (by decide) ?_
    refine sc_ld hx hb hX hbl hS (show i + 2 < Ln by omega) hLn dL_law_214 dL_law_215 ?_
    refine mr_calli (As := [.int (xs (i + 1)), .int (xs (i + 2))]) (rest := []) ⟨hx, hb, hml, hown, hts⟩ (mt_near l E ym ad L M (xs (i + 1)) (xs (i + 2))) (cwV 2 hts (lw_V q1071 q1072 q1073 q41 q1074) rfl rfl rfl (by decide +kernel) ⟨Nat.le_of_ble_eq_true rfl, Nat.le_of_ble_eq_true rfl⟩) trivial hK.1 hM hL9 hS rfl hl.1 rfl (Nat.le_of_ble_eq_true rfl) dL_law_216 ⟨(show _ ≤ 1200384 by omega), (show _ ≤ 5490858 by omega)⟩ (fun H locs hM hS hz hk => ?_)
    have hR := hR.kept (fun a ha hlt => hk a hlt (fun z => ha.2 z))
    refine W.eq (g2 := F0 m 219 ls [.int (gs_bz (mf_near M (xs (i + 1)) (xs (i + 2))).1)]) rfl ?_
    refine lv_istore (lv' := [(6, .int (gs_bz (mf_near M (xs (i + 1)) (xs (i + 2))).1)), (5, .int (nI (ix + 1))), (4, .int (nI i)), (3, .ref o), (2, .ref ym), (1, .ref (g 0 0)), (0, .ref b)]) hx hb dL_law_219 hl (by decide) rfl (fun ls hl => ?_)
    refine lv_aload_n hx hb dL_law_221 rfl (lv_at hl 4 rfl) ?_
    refine mr_calli (As := []) (rest := []) ⟨hx, hb, hml, hown, hts⟩ (mt_thrown l E ym ad L (mf_near M (xs (i + 1)) (xs (i + 2))).2) (cwV 0 hts (lw_V q1067 q1068 q1069 q41 q1070) rfl rfl rfl (by decide +kernel) ⟨Nat.le_of_ble_eq_true rfl, Nat.le_of_ble_eq_true rfl⟩) trivial hK.1 hM hL9 hS rfl hl.1 rfl (Nat.le_of_ble_eq_true rfl) dL_law_222 ⟨(show _ ≤ 1200384 by omega), (show _ ≤ 5490858 by omega)⟩ (fun H locs hM hS hz hk => ?_)
    have hR := hR.kept (fun a ha hlt => hk a hlt (fun z => ha.2 z))
    refine W.eq (g2 := F0 m 225 ls [.int (mf_thrown (mf_near M (xs (i + 1)) (xs (i + 2))).2)]) rfl ?_
    refine lv_iload hx hb dL_law_225 (lv_at hl 1 rfl) ?_
    refine lv_icmp_eq (tgt := 232) hx hb dL_law_227 (by decide) (fun _ => ?_) (fun h => absurd ht h)
    refine lv_iload hx hb dL_law_232 (lv_at hl 1 rfl) ?_
    refine lv_if_ne (tgt := 256) hx hb dL_law_234 (by decide) (fun _ => ?_) (fun h => absurd h (li_n0 (by decide) hix))
    refine lv_goto (tgt := 2388) hx hb dL_law_256 (by decide) ?_
    refine W.widen (k := cells + 870) (n := slots + 3850) (by omega) (by omega) ?_
    exact kk S (mf_near M (xs (i + 1)) (xs (i + 2))).2 H locs ls ⟨hCP2, ⟨g, h, v', rfl, hh, hR⟩, hM⟩ hS (lv_sub hl [2, 3, 4, 5, 6] rfl)
  · have hM := hM.kept (fun a ha hlt => hk a hlt (fun z => z.2 ha))
    obtain ⟨ht, hr, hCP2⟩ := hcl.2 r S' hxn
    refine lv_istore (lv' := [(5, .int 0), (4, .int (nI i)), (3, .ref o), (2, .ref ym), (1, .ref (g 0 0)), (0, .ref b)]) hx hb dL_law_201 hl (by decide) rfl (fun ls hl => ?_)
    refine lv_aload_n hx hb dL_law_203 rfl (lv_at hl 3 rfl) ?_
    refine lv_aload_n hx hb dL_law_204 rfl (lv_at hl 5 rfl) ?_
    refine lv_iload hx hb dL_law_205 (lv_at hl 1 rfl) ?_
    refine lv_iconst (v := nI 1) hx hb dL_law_207 (by decide) ?_
    refine sc_ld hx hb hX hbl hS (show i + 1 < Ln by omega) hLn dL_law_208 dL_law_209 ?_
    refine lv_aload_n hx hb dL_law_210 rfl (lv_at hl 5 rfl) ?_
    refine lv_iload hx hb dL_law_211 (lv_at hl 1 rfl) ?_
    refine lv_iconst (v := nI 2) hx hb dL_law_213 (by decide) ?_
    refine sc_ld hx hb hX hbl hS (show i + 2 < Ln by omega) hLn dL_law_214 dL_law_215 ?_
    refine mr_calli (As := [.int (xs (i + 1)), .int (xs (i + 2))]) (rest := []) ⟨hx, hb, hml, hown, hts⟩ (mt_near l E ym ad L M (xs (i + 1)) (xs (i + 2))) (cwV 2 hts (lw_V q1071 q1072 q1073 q41 q1074) rfl rfl rfl (by decide +kernel) ⟨Nat.le_of_ble_eq_true rfl, Nat.le_of_ble_eq_true rfl⟩) trivial hK.1 hM hL9 hS rfl hl.1 rfl (Nat.le_of_ble_eq_true rfl) dL_law_216 ⟨(show _ ≤ 1200384 by omega), (show _ ≤ 5490858 by omega)⟩ (fun H locs hM hS hz hk => ?_)
    have hR := hR.kept (fun a ha hlt => hk a hlt (fun z => ha.2 z))
    refine W.eq (g2 := F0 m 219 ls [.int (gs_bz (mf_near M (xs (i + 1)) (xs (i + 2))).1)]) rfl ?_
    refine lv_istore (lv' := [(6, .int (gs_bz (mf_near M (xs (i + 1)) (xs (i + 2))).1)), (5, .int 0), (4, .int (nI i)), (3, .ref o), (2, .ref ym), (1, .ref (g 0 0)), (0, .ref b)]) hx hb dL_law_219 hl (by decide) rfl (fun ls hl => ?_)
    refine lv_aload_n hx hb dL_law_221 rfl (lv_at hl 4 rfl) ?_
    refine mr_calli (As := []) (rest := []) ⟨hx, hb, hml, hown, hts⟩ (mt_thrown l E ym ad L (mf_near M (xs (i + 1)) (xs (i + 2))).2) (cwV 0 hts (lw_V q1067 q1068 q1069 q41 q1070) rfl rfl rfl (by decide +kernel) ⟨Nat.le_of_ble_eq_true rfl, Nat.le_of_ble_eq_true rfl⟩) trivial hK.1 hM hL9 hS rfl hl.1 rfl (Nat.le_of_ble_eq_true rfl) dL_law_222 ⟨(show _ ≤ 1200384 by omega), (show _ ≤ 5490858 by omega)⟩ (fun H locs hM hS hz hk => ?_)
    have hR := hR.kept (fun a ha hlt => hk a hlt (fun z => ha.2 z))
    refine W.eq (g2 := F0 m 225 ls [.int (mf_thrown (mf_near M (xs (i + 1)) (xs (i + 2))).2)]) rfl ?_
    refine lv_iload hx hb dL_law_225 (lv_at hl 1 rfl) ?_
    refine lv_icmp_eq (tgt := 232) hx hb dL_law_227 (by decide) (fun _ => ?_) (fun h => absurd ht h)
    refine lv_iload hx hb dL_law_232 (lv_at hl 1 rfl) ?_
    refine lv_if_ne (tgt := 256) hx hb dL_law_234 (by decide) (fun h => absurd rfl h) (fun _ => ?_)
    refine lv_aload_n hx hb dL_law_237 rfl (lv_at hl 3 rfl) ?_
    refine lv_iconst (v := 0) hx hb dL_law_238 (by decide) ?_
    refine xo_lald hx hb hK.1 hR dL_law_239 ?_
    refine lv_iload hx hb dL_law_240 (lv_at hl 0 rfl) ?_
    have hvv : v' 0 = (gs_bz (mf_near M (xs (i + 1)) (xs (i + 2))).1).toInt64 := by rw [hv', hr]
    rcases Bool.eq_false_or_eq_true (mf_near M (xs (i + 1)) (xs (i + 2))).1 with hbq | hbq
    · rw [hbq] at hvv
      refine W.eq (g2 := F0 m 242 ls [.int 1, .long (v' 0)]) (by rw [hbq]; rfl) ?_
      refine lv_if_eq (tgt := 249) hx hb dL_law_242 (by decide) (fun h => absurd h (by decide)) (fun _ => ?_)
      refine lv_lconst (v := 1) hx hb dL_law_245 (by decide) ?_
      refine lv_goto (tgt := 250) hx hb dL_law_246 (by decide) ?_
      have hvv : v' 0 = 1 := hvv.trans (by decide)
      refine W.eq (g2 := F0 m 250 ls [.long 1, .long 1]) (congrArg (fun z => F0 m 250 ls [.long 1, .long z]) hvv) ?_
      refine lv_lcmpE hx hb dL_law_250 ?_
      refine lv_if_eq (tgt := 256) hx hb dL_law_251 (by decide) (fun _ => ?_) (fun h => absurd rfl h)
      refine lv_goto (tgt := 2388) hx hb dL_law_256 (by decide) ?_
      refine W.widen (k := cells + 870) (n := slots + 3850) (by omega) (by omega) ?_
      exact kk S' (mf_near M (xs (i + 1)) (xs (i + 2))).2 H locs ls ⟨hCP2, ⟨g', h', v', hg0, hh', hR⟩, hM⟩ hS (lv_sub hl [2, 3, 4, 5, 6] rfl)
    · rw [hbq] at hvv
      refine W.eq (g2 := F0 m 242 ls [.int 0, .long (v' 0)]) (by rw [hbq]; rfl) ?_
      refine lv_if_eq (tgt := 249) hx hb dL_law_242 (by decide) (fun _ => ?_) (fun h => absurd rfl h)
      refine lv_lconst (v := 0) hx hb dL_law_249 (by decide) ?_
      have hvv : v' 0 = 0 := hvv.trans (by decide)
      refine W.eq (g2 := F0 m 250 ls [.long 0, .long 0]) (congrArg (fun z => F0 m 250 ls [.long 0, .long z]) hvv) ?_
      refine lv_lcmpE hx hb dL_law_250 ?_
      refine lv_if_eq (tgt := 256) hx hb dL_law_251 (by decide) (fun _ => ?_) (fun h => absurd rfl h)
      refine lv_goto (tgt := 2388) hx hb dL_law_256 (by decide) ?_
      refine W.widen (k := cells + 870) (n := slots + 3850) (by omega) (by omega) ?_
      exact kk S' (mf_near M (xs (i + 1)) (xs (i + 2))).2 H locs ls ⟨hCP2, ⟨g', h', v', hg0, hh', hR⟩, hM⟩ hS (lv_sub hl [2, 3, 4, 5, 6] rfl)
set_option maxHeartbeats 2000000 in
set_option maxRecDepth 100000 in
theorem lc_alike {CP : gs_T → gs_T → Prop} (hCPi : ∀ S M, CP S M → xi_ok S ∧ mi_ok M) (hc : ∀ S M (p1 : Int32) (p2 : Int32), CP S M → cl_P CP ["java/lang/IndexOutOfBoundsException", "java/lang/IllegalArgumentException"] (xp_alike S p1 p2) (mf_alike M p1 p2).1 (mf_alike M p1 p2).2 S) {l : Launch} {p : Program} {e : Env} {s : State} {m : MethodId} {below : List Frame} {meth : Method} {c : Code} {H : Heap} {locs : List Loc} {cells slots : Nat} {Q : State → Prop} {ls : Array Slot} {b Ln i : Nat} {xs : Nat → Int32} {E : en_T} {C : ex_C} {x0 ym o : Nat} {ad : Nat → Nat} {L : List Nat} {S M : gs_T} (hE : le_E l p s m meth c b Ln xs E C ym L) (hi : i + 8 ≤ Ln) (hW : LW CP E C s x0 ym o ad L S M H) (hS : va_S (la_9 s) s.heap H locs) (hl : lv_has ls 7 [(4, .int (nI i)), (3, .ref o), (2, .ref ym), (1, .ref x0), (0, .ref b)]) (hf : cells + 870 ≤ 1200384 ∧ slots + 3850 ≤ 5490858) (kk : ∀ (S' M' : gs_T) (H' : Heap) (locs' : List Loc) (ls' : Array Slot), LW CP E C s x0 ym o ad L S' M' H' → va_S (la_9 s) s.heap H' locs' → lv_has ls' 7 [(4, .int (nI i)), (3, .ref o), (2, .ref ym), (1, .ref x0), (0, .ref b)] → W p l e room_1 s m #[.ref b] below meth c H' locs' (cells + 870) (slots + 3850) Q (F0 m 2388 ls' [])) : W p l e room_1 s m #[.ref b] below meth c H locs cells slots Q (F0 m 259 ls []) := by
  obtain ⟨hx, hb, hml, hown, hts, hX, hbl, hK, hN, hZ, hfl, hL9, hLn⟩ := hE
  obtain ⟨hCP, ⟨g, h, v, hg0, hh, hR⟩, hM⟩ := hW
  obtain ⟨hI, hmi⟩ := hCPi S M hCP
  subst hg0
  refine lv_aload_n hx hb dL_law_259 rfl (lv_at hl 3 rfl) ?_
  refine lv_aload_n hx hb dL_law_260 rfl (lv_at hl 4 rfl) ?_
  refine lv_iload hx hb dL_law_261 (lv_at hl 0 rfl) ?_
  refine lv_iconst (v := nI 1) hx hb dL_law_263 (by decide) ?_
  refine sc_ld hx hb hX hbl hS (show i + 1 < Ln by omega) hLn dL_law_264 dL_law_265 ?_
  refine lv_aload_n hx hb dL_law_266 rfl (lv_at hl 4 rfl) ?_
  refine lv_iload hx hb dL_law_267 (lv_at hl 0 rfl) ?_
  refine lv_iconst (v := nI 2) hx hb dL_law_269 (by decide) ?_
  refine sc_ld hx hb hX hbl hS (show i + 2 < Ln by omega) hLn dL_law_270 dL_law_271 ?_
  refine lv_aload_n hx hb dL_law_272 rfl (lv_at hl 1 rfl) ?_
  have hcl := hc S M (xs (i + 1)) (xs (i + 2)) hCP
  have hmz : mi_ok M := hmi
  refine ls_S (As := [.ref (g 0 0), .int (xs (i + 1)), .int (xs (i + 2)), .ref o]) (rest := []) hK hN hZ hS (fun _ h => h.1) (la_new hS.1 (mr_lt hM)) hR ⟨hI, hh⟩ (wt_alike l hfl E C (la_A s L) H.size g h S o v (xs (i + 1)) (xs (i + 2))) ⟨hx, hb, hml, hown, hts⟩ (vx_cwSW 4 hts (lw_SW q343 q344 q32 q345) rfl rfl rfl (by decide +kernel) ⟨Nat.le_of_ble_eq_true rfl, Nat.le_of_ble_eq_true rfl⟩) rfl hl.1 rfl (Nat.le_of_ble_eq_true rfl) dL_law_273 ⟨(show _ ≤ 1200384 by omega), (show _ ≤ 5490858 by omega)⟩ (fun Xn ix v' H locs hxn hix hR hz hk hS => ?_) (fun r S' g' h' v' H locs hxn hg0 hh' hv' hR hz hk hS => ?_)
  · have hM := hM.kept (fun a ha hlt => hk a hlt (fun z => z.2 ha))
    obtain ⟨j, hj, ht, hCP2⟩ := hcl.1 Xn hxn
    have ej := li_ne (by decide) hix hj
    rw [← ej] at ht
    refine lv_istore (lv' := [(5, .int (nI (ix + 1))), (4, .int (nI i)), (3, .ref o), (2, .ref ym), (1, .ref (g 0 0)), (0, .ref b)]) hx hb dL_law_276 hl (by decide) rfl (fun ls hl => ?_)
    refine lv_aload_n hx hb dL_law_278 rfl (lv_at hl 3 rfl) ?_
    refine lv_aload_n hx hb dL_law_279 rfl (lv_at hl 5 rfl) ?_
    refine lv_iload hx hb dL_law_280 (lv_at hl 1 rfl) ?_
    refine lv_iconst (v := nI 1) hx hb dL_law_282 (by decide) ?_
    refine sc_ld hx hb hX hbl hS (show i + 1 < Ln by omega) hLn dL_law_283 dL_law_284 ?_
    refine lv_aload_n hx hb dL_law_285 rfl (lv_at hl 5 rfl) ?_
    refine lv_iload hx hb dL_law_286 (lv_at hl 1 rfl) ?_
    refine lv_iconst (v := nI 2) hx hb dL_law_288 (by decide) ?_
    refine sc_ld hx hb hX hbl hS (show i + 2 < Ln by omega) hLn dL_law_289 dL_law_290 ?_
    refine mr_calli (As := [.int (xs (i + 1)), .int (xs (i + 2))]) (rest := []) ⟨hx, hb, hml, hown, hts⟩ (mt_alike l E ym ad L M (xs (i + 1)) (xs (i + 2))) (cwV 2 hts (lw_V q1085 q1086 q1087 q41 q1088) rfl rfl rfl (by decide +kernel) ⟨Nat.le_of_ble_eq_true rfl, Nat.le_of_ble_eq_true rfl⟩) trivial hK.1 hM hL9 hS rfl hl.1 rfl (Nat.le_of_ble_eq_true rfl) dL_law_291 ⟨(show _ ≤ 1200384 by omega), (show _ ≤ 5490858 by omega)⟩ (fun H locs hM hS hz hk => ?_)
    have hR := hR.kept (fun a ha hlt => hk a hlt (fun z => ha.2 z))
    refine W.eq (g2 := F0 m 294 ls [.int (gs_bz (mf_alike M (xs (i + 1)) (xs (i + 2))).1)]) rfl ?_
    refine lv_istore (lv' := [(6, .int (gs_bz (mf_alike M (xs (i + 1)) (xs (i + 2))).1)), (5, .int (nI (ix + 1))), (4, .int (nI i)), (3, .ref o), (2, .ref ym), (1, .ref (g 0 0)), (0, .ref b)]) hx hb dL_law_294 hl (by decide) rfl (fun ls hl => ?_)
    refine lv_aload_n hx hb dL_law_296 rfl (lv_at hl 4 rfl) ?_
    refine mr_calli (As := []) (rest := []) ⟨hx, hb, hml, hown, hts⟩ (mt_thrown l E ym ad L (mf_alike M (xs (i + 1)) (xs (i + 2))).2) (cwV 0 hts (lw_V q1067 q1068 q1069 q41 q1070) rfl rfl rfl (by decide +kernel) ⟨Nat.le_of_ble_eq_true rfl, Nat.le_of_ble_eq_true rfl⟩) trivial hK.1 hM hL9 hS rfl hl.1 rfl (Nat.le_of_ble_eq_true rfl) dL_law_297 ⟨(show _ ≤ 1200384 by omega), (show _ ≤ 5490858 by omega)⟩ (fun H locs hM hS hz hk => ?_)
    have hR := hR.kept (fun a ha hlt => hk a hlt (fun z => ha.2 z))
    refine W.eq (g2 := F0 m 300 ls [.int (mf_thrown (mf_alike M (xs (i + 1)) (xs (i + 2))).2)]) rfl ?_
    refine lv_iload hx hb dL_law_300 (lv_at hl 1 rfl) ?_
    refine lv_icmp_eq (tgt := 307) hx hb dL_law_302 (by decide) (fun _ => ?_) (fun h => absurd ht h)
    refine lv_iload hx hb dL_law_307 (lv_at hl 1 rfl) ?_
    refine lv_if_ne (tgt := 331) hx hb dL_law_309 (by decide) (fun _ => ?_) (fun h => absurd h (li_n0 (by decide) hix))
    refine lv_goto (tgt := 2388) hx hb dL_law_331 (by decide) ?_
    refine W.widen (k := cells + 870) (n := slots + 3850) (by omega) (by omega) ?_
    exact kk S (mf_alike M (xs (i + 1)) (xs (i + 2))).2 H locs ls ⟨hCP2, ⟨g, h, v', rfl, hh, hR⟩, hM⟩ hS (lv_sub hl [2, 3, 4, 5, 6] rfl)
  · have hM := hM.kept (fun a ha hlt => hk a hlt (fun z => z.2 ha))
    obtain ⟨ht, hr, hCP2⟩ := hcl.2 r S' hxn
    refine lv_istore (lv' := [(5, .int 0), (4, .int (nI i)), (3, .ref o), (2, .ref ym), (1, .ref (g 0 0)), (0, .ref b)]) hx hb dL_law_276 hl (by decide) rfl (fun ls hl => ?_)
    refine lv_aload_n hx hb dL_law_278 rfl (lv_at hl 3 rfl) ?_
    refine lv_aload_n hx hb dL_law_279 rfl (lv_at hl 5 rfl) ?_
    refine lv_iload hx hb dL_law_280 (lv_at hl 1 rfl) ?_
    refine lv_iconst (v := nI 1) hx hb dL_law_282 (by decide) ?_
    refine sc_ld hx hb hX hbl hS (show i + 1 < Ln by omega) hLn dL_law_283 dL_law_284 ?_
    refine lv_aload_n hx hb dL_law_285 rfl (lv_at hl 5 rfl) ?_
    refine lv_iload hx hb dL_law_286 (lv_at hl 1 rfl) ?_
    refine lv_iconst (v := nI 2) hx hb dL_law_288 (by decide) ?_
    refine sc_ld hx hb hX hbl hS (show i + 2 < Ln by omega) hLn dL_law_289 dL_law_290 ?_
    refine mr_calli (As := [.int (xs (i + 1)), .int (xs (i + 2))]) (rest := []) ⟨hx, hb, hml, hown, hts⟩ (mt_alike l E ym ad L M (xs (i + 1)) (xs (i + 2))) (cwV 2 hts (lw_V q1085 q1086 q1087 q41 q1088) rfl rfl rfl (by decide +kernel) ⟨Nat.le_of_ble_eq_true rfl, Nat.le_of_ble_eq_true rfl⟩) trivial hK.1 hM hL9 hS rfl hl.1 rfl (Nat.le_of_ble_eq_true rfl) dL_law_291 ⟨(show _ ≤ 1200384 by omega), (show _ ≤ 5490858 by omega)⟩ (fun H locs hM hS hz hk => ?_)
    have hR := hR.kept (fun a ha hlt => hk a hlt (fun z => ha.2 z))
    refine W.eq (g2 := F0 m 294 ls [.int (gs_bz (mf_alike M (xs (i + 1)) (xs (i + 2))).1)]) rfl ?_
    refine lv_istore (lv' := [(6, .int (gs_bz (mf_alike M (xs (i + 1)) (xs (i + 2))).1)), (5, .int 0), (4, .int (nI i)), (3, .ref o), (2, .ref ym), (1, .ref (g 0 0)), (0, .ref b)]) hx hb dL_law_294 hl (by decide) rfl (fun ls hl => ?_)
    refine lv_aload_n hx hb dL_law_296 rfl (lv_at hl 4 rfl) ?_
    refine mr_calli (As := []) (rest := []) ⟨hx, hb, hml, hown, hts⟩ (mt_thrown l E ym ad L (mf_alike M (xs (i + 1)) (xs (i + 2))).2) (cwV 0 hts (lw_V q1067 q1068 q1069 q41 q1070) rfl rfl rfl (by decide +kernel) ⟨Nat.le_of_ble_eq_true rfl, Nat.le_of_ble_eq_true rfl⟩) trivial hK.1 hM hL9 hS rfl hl.1 rfl (Nat.le_of_ble_eq_true rfl) dL_law_297 ⟨(show _ ≤ 1200384 by omega), (show _ ≤ 5490858 by omega)⟩ (fun H locs hM hS hz hk => ?_)
    have hR := hR.kept (fun a ha hlt => hk a hlt (fun z => ha.2 z))
    refine W.eq (g2 := F0 m 300 ls [.int (mf_thrown (mf_alike M (xs (i + 1)) (xs (i + 2))).2)]) rfl ?_
    refine lv_iload hx hb dL_law_300 (lv_at hl 1 rfl) ?_
    refine lv_icmp_eq (tgt := 307) hx hb dL_law_302 (by decide) (fun _ => ?_) (fun h => absurd ht h)
    refine lv_iload hx hb dL_law_307 (lv_at hl 1 rfl) ?_
    refine lv_if_ne (tgt := 331) hx hb dL_law_309 (by decide) (fun h => absurd rfl h) (fun _ => ?_)
    refine lv_aload_n hx hb dL_law_312 rfl (lv_at hl 3 rfl) ?_
    refine lv_iconst (v := 0) hx hb dL_law_313 (by decide) ?_
    refine xo_lald hx hb hK.1 hR dL_law_314 ?_
    refine lv_iload hx hb dL_law_315 (lv_at hl 0 rfl) ?_
    have hvv : v' 0 = (gs_bz (mf_alike M (xs (i + 1)) (xs (i + 2))).1).toInt64 := by rw [hv', hr]
    rcases Bool.eq_false_or_eq_true (mf_alike M (xs (i + 1)) (xs (i + 2))).1 with hbq | hbq
    · rw [hbq] at hvv
      refine W.eq (g2 := F0 m 317 ls [.int 1, .long (v' 0)]) (by rw [hbq]; rfl) ?_
      refine lv_if_eq (tgt := 324) hx hb dL_law_317 (by decide) (fun h => absurd h (by decide)) (fun _ => ?_)
      refine lv_lconst (v := 1) hx hb dL_law_320 (by decide) ?_
      refine lv_goto (tgt := 325) hx hb dL_law_321 (by decide) ?_
      have hvv : v' 0 = 1 := hvv.trans (by decide)
      refine W.eq (g2 := F0 m 325 ls [.long 1, .long 1]) (congrArg (fun z => F0 m 325 ls [.long 1, .long z]) hvv) ?_
      refine lv_lcmpE hx hb dL_law_325 ?_
      refine lv_if_eq (tgt := 331) hx hb dL_law_326 (by decide) (fun _ => ?_) (fun h => absurd rfl h)
      refine lv_goto (tgt := 2388) hx hb dL_law_331 (by decide) ?_
      refine W.widen (k := cells + 870) (n := slots + 3850) (by omega) (by omega) ?_
      exact kk S' (mf_alike M (xs (i + 1)) (xs (i + 2))).2 H locs ls ⟨hCP2, ⟨g', h', v', hg0, hh', hR⟩, hM⟩ hS (lv_sub hl [2, 3, 4, 5, 6] rfl)
    · rw [hbq] at hvv
      refine W.eq (g2 := F0 m 317 ls [.int 0, .long (v' 0)]) (by rw [hbq]; rfl) ?_
      refine lv_if_eq (tgt := 324) hx hb dL_law_317 (by decide) (fun _ => ?_) (fun h => absurd rfl h)
      refine lv_lconst (v := 0) hx hb dL_law_324 (by decide) ?_
      have hvv : v' 0 = 0 := hvv.trans (by decide)
      refine W.eq (g2 := F0 m 325 ls [.long 0, .long 0]) (congrArg (fun z => F0 m 325 ls [.long 0, .long z]) hvv) ?_
      refine lv_lcmpE hx hb dL_law_325 ?_
      refine lv_if_eq (tgt := 331) hx hb dL_law_326 (by decide) (fun _ => ?_) (fun h => absurd rfl h)
      refine lv_goto (tgt := 2388) hx hb dL_law_331 (by decide) ?_
      refine W.widen (k := cells + 870) (n := slots + 3850) (by omega) (by omega) ?_
      exact kk S' (mf_alike M (xs (i + 1)) (xs (i + 2))).2 H locs ls ⟨hCP2, ⟨g', h', v', hg0, hh', hR⟩, hM⟩ hS (lv_sub hl [2, 3, 4, 5, 6] rfl)
set_option maxHeartbeats 2000000 in
set_option maxRecDepth 100000 in
theorem lc_rule {CP : gs_T → gs_T → Prop} (hCPi : ∀ S M, CP S M → xi_ok S ∧ mi_ok M) (hc : ∀ S M (p1 : Int32) (p2 : Int32) (p3 : Int32), CP S M → cl_P CP ["java/lang/IndexOutOfBoundsException", "java/lang/IllegalArgumentException"] (xp_rule S p1 p2 p3) (mf_rule M p1 p2 p3).1 (mf_rule M p1 p2 p3).2 S) {l : Launch} {p : Program} {e : Env} {s : State} {m : MethodId} {below : List Frame} {meth : Method} {c : Code} {H : Heap} {locs : List Loc} {cells slots : Nat} {Q : State → Prop} {ls : Array Slot} {b Ln i : Nat} {xs : Nat → Int32} {E : en_T} {C : ex_C} {x0 ym o : Nat} {ad : Nat → Nat} {L : List Nat} {S M : gs_T} (hE : le_E l p s m meth c b Ln xs E C ym L) (hi : i + 8 ≤ Ln) (hW : LW CP E C s x0 ym o ad L S M H) (hS : va_S (la_9 s) s.heap H locs) (hl : lv_has ls 7 [(4, .int (nI i)), (3, .ref o), (2, .ref ym), (1, .ref x0), (0, .ref b)]) (hf : cells + 870 ≤ 1200384 ∧ slots + 3850 ≤ 5490858) (kk : ∀ (S' M' : gs_T) (H' : Heap) (locs' : List Loc) (ls' : Array Slot), LW CP E C s x0 ym o ad L S' M' H' → va_S (la_9 s) s.heap H' locs' → lv_has ls' 7 [(4, .int (nI i)), (3, .ref o), (2, .ref ym), (1, .ref x0), (0, .ref b)] → W p l e room_1 s m #[.ref b] below meth c H' locs' (cells + 870) (slots + 3850) Q (F0 m 2388 ls' [])) : W p l e room_1 s m #[.ref b] below meth c H locs cells slots Q (F0 m 334 ls []) := by
  obtain ⟨hx, hb, hml, hown, hts, hX, hbl, hK, hN, hZ, hfl, hL9, hLn⟩ := hE
  obtain ⟨hCP, ⟨g, h, v, hg0, hh, hR⟩, hM⟩ := hW
  obtain ⟨hI, hmi⟩ := hCPi S M hCP
  subst hg0
  refine lv_aload_n hx hb dL_law_334 rfl (lv_at hl 3 rfl) ?_
  refine lv_aload_n hx hb dL_law_335 rfl (lv_at hl 4 rfl) ?_
  refine lv_iload hx hb dL_law_336 (lv_at hl 0 rfl) ?_
  refine lv_iconst (v := nI 1) hx hb dL_law_338 (by decide) ?_
  refine sc_ld hx hb hX hbl hS (show i + 1 < Ln by omega) hLn dL_law_339 dL_law_340 ?_
  refine lv_aload_n hx hb dL_law_341 rfl (lv_at hl 4 rfl) ?_
  refine lv_iload hx hb dL_law_342 (lv_at hl 0 rfl) ?_
  refine lv_iconst (v := nI 2) hx hb dL_law_344 (by decide) ?_
  refine sc_ld hx hb hX hbl hS (show i + 2 < Ln by omega) hLn dL_law_345 dL_law_346 ?_
  refine lv_aload_n hx hb dL_law_347 rfl (lv_at hl 4 rfl) ?_
  refine lv_iload hx hb dL_law_348 (lv_at hl 0 rfl) ?_
  refine lv_iconst (v := nI 3) hx hb dL_law_350 (by decide) ?_
  refine sc_ld hx hb hX hbl hS (show i + 3 < Ln by omega) hLn dL_law_351 dL_law_352 ?_
  refine lv_aload_n hx hb dL_law_353 rfl (lv_at hl 1 rfl) ?_
  have hcl := hc S M (xs (i + 1)) (xs (i + 2)) (xs (i + 3)) hCP
  have hmz : mi_ok M := hmi
  refine ls_S (As := [.ref (g 0 0), .int (xs (i + 1)), .int (xs (i + 2)), .int (xs (i + 3)), .ref o]) (rest := []) hK hN hZ hS (fun _ h => h.1) (la_new hS.1 (mr_lt hM)) hR ⟨hI, hh⟩ (wt_rule l hfl E C (la_A s L) H.size g h S o v (xs (i + 1)) (xs (i + 2)) (xs (i + 3))) ⟨hx, hb, hml, hown, hts⟩ (vx_cwSW 5 hts (lw_SW q353 q354 q32 q355) rfl rfl rfl (by decide +kernel) ⟨Nat.le_of_ble_eq_true rfl, Nat.le_of_ble_eq_true rfl⟩) rfl hl.1 rfl (Nat.le_of_ble_eq_true rfl) dL_law_354 ⟨(show _ ≤ 1200384 by omega), (show _ ≤ 5490858 by omega)⟩ (fun Xn ix v' H locs hxn hix hR hz hk hS => ?_) (fun r S' g' h' v' H locs hxn hg0 hh' hv' hR hz hk hS => ?_)
  · have hM := hM.kept (fun a ha hlt => hk a hlt (fun z => z.2 ha))
    obtain ⟨j, hj, ht, hCP2⟩ := hcl.1 Xn hxn
    have ej := li_ne (by decide) hix hj
    rw [← ej] at ht
    refine lv_istore (lv' := [(5, .int (nI (ix + 1))), (4, .int (nI i)), (3, .ref o), (2, .ref ym), (1, .ref (g 0 0)), (0, .ref b)]) hx hb dL_law_357 hl (by decide) rfl (fun ls hl => ?_)
    refine lv_aload_n hx hb dL_law_359 rfl (lv_at hl 3 rfl) ?_
    refine lv_aload_n hx hb dL_law_360 rfl (lv_at hl 5 rfl) ?_
    refine lv_iload hx hb dL_law_361 (lv_at hl 1 rfl) ?_
    refine lv_iconst (v := nI 1) hx hb dL_law_363 (by decide) ?_
    refine sc_ld hx hb hX hbl hS (show i + 1 < Ln by omega) hLn dL_law_364 dL_law_365 ?_
    refine lv_aload_n hx hb dL_law_366 rfl (lv_at hl 5 rfl) ?_
    refine lv_iload hx hb dL_law_367 (lv_at hl 1 rfl) ?_
    refine lv_iconst (v := nI 2) hx hb dL_law_369 (by decide) ?_
    refine sc_ld hx hb hX hbl hS (show i + 2 < Ln by omega) hLn dL_law_370 dL_law_371 ?_
    refine lv_aload_n hx hb dL_law_372 rfl (lv_at hl 5 rfl) ?_
    refine lv_iload hx hb dL_law_373 (lv_at hl 1 rfl) ?_
    refine lv_iconst (v := nI 3) hx hb dL_law_375 (by decide) ?_
    refine sc_ld hx hb hX hbl hS (show i + 3 < Ln by omega) hLn dL_law_376 dL_law_377 ?_
    refine mr_calli (As := [.int (xs (i + 1)), .int (xs (i + 2)), .int (xs (i + 3))]) (rest := []) ⟨hx, hb, hml, hown, hts⟩ (mt_rule l E ym ad L M (xs (i + 1)) (xs (i + 2)) (xs (i + 3))) (cwV 3 hts (lw_V q1092 q1093 q1094 q41 q1095) rfl rfl rfl (by decide +kernel) ⟨Nat.le_of_ble_eq_true rfl, Nat.le_of_ble_eq_true rfl⟩) trivial hK.1 hM hL9 hS rfl hl.1 rfl (Nat.le_of_ble_eq_true rfl) dL_law_378 ⟨(show _ ≤ 1200384 by omega), (show _ ≤ 5490858 by omega)⟩ (fun H locs hM hS hz hk => ?_)
    have hR := hR.kept (fun a ha hlt => hk a hlt (fun z => ha.2 z))
    refine W.eq (g2 := F0 m 381 ls [.int (mf_rule M (xs (i + 1)) (xs (i + 2)) (xs (i + 3))).1]) rfl ?_
    refine lv_istore (lv' := [(6, .int (mf_rule M (xs (i + 1)) (xs (i + 2)) (xs (i + 3))).1), (5, .int (nI (ix + 1))), (4, .int (nI i)), (3, .ref o), (2, .ref ym), (1, .ref (g 0 0)), (0, .ref b)]) hx hb dL_law_381 hl (by decide) rfl (fun ls hl => ?_)
    refine lv_aload_n hx hb dL_law_383 rfl (lv_at hl 4 rfl) ?_
    refine mr_calli (As := []) (rest := []) ⟨hx, hb, hml, hown, hts⟩ (mt_thrown l E ym ad L (mf_rule M (xs (i + 1)) (xs (i + 2)) (xs (i + 3))).2) (cwV 0 hts (lw_V q1067 q1068 q1069 q41 q1070) rfl rfl rfl (by decide +kernel) ⟨Nat.le_of_ble_eq_true rfl, Nat.le_of_ble_eq_true rfl⟩) trivial hK.1 hM hL9 hS rfl hl.1 rfl (Nat.le_of_ble_eq_true rfl) dL_law_384 ⟨(show _ ≤ 1200384 by omega), (show _ ≤ 5490858 by omega)⟩ (fun H locs hM hS hz hk => ?_)
    have hR := hR.kept (fun a ha hlt => hk a hlt (fun z => ha.2 z))
    refine W.eq (g2 := F0 m 387 ls [.int (mf_thrown (mf_rule M (xs (i + 1)) (xs (i + 2)) (xs (i + 3))).2)]) rfl ?_
    refine lv_iload hx hb dL_law_387 (lv_at hl 1 rfl) ?_
    refine lv_icmp_eq (tgt := 394) hx hb dL_law_389 (by decide) (fun _ => ?_) (fun h => absurd ht h)
    refine lv_iload hx hb dL_law_394 (lv_at hl 1 rfl) ?_
    refine lv_if_ne (tgt := 411) hx hb dL_law_396 (by decide) (fun _ => ?_) (fun h => absurd h (li_n0 (by decide) hix))
    refine lv_goto (tgt := 2388) hx hb dL_law_411 (by decide) ?_
    refine W.widen (k := cells + 870) (n := slots + 3850) (by omega) (by omega) ?_
    exact kk S (mf_rule M (xs (i + 1)) (xs (i + 2)) (xs (i + 3))).2 H locs ls ⟨hCP2, ⟨g, h, v', rfl, hh, hR⟩, hM⟩ hS (lv_sub hl [2, 3, 4, 5, 6] rfl)
  · have hM := hM.kept (fun a ha hlt => hk a hlt (fun z => z.2 ha))
    obtain ⟨ht, hr, hCP2⟩ := hcl.2 r S' hxn
    refine lv_istore (lv' := [(5, .int 0), (4, .int (nI i)), (3, .ref o), (2, .ref ym), (1, .ref (g 0 0)), (0, .ref b)]) hx hb dL_law_357 hl (by decide) rfl (fun ls hl => ?_)
    refine lv_aload_n hx hb dL_law_359 rfl (lv_at hl 3 rfl) ?_
    refine lv_aload_n hx hb dL_law_360 rfl (lv_at hl 5 rfl) ?_
    refine lv_iload hx hb dL_law_361 (lv_at hl 1 rfl) ?_
    refine lv_iconst (v := nI 1) hx hb dL_law_363 (by decide) ?_
    refine sc_ld hx hb hX hbl hS (show i + 1 < Ln by omega) hLn dL_law_364 dL_law_365 ?_
    refine lv_aload_n hx hb dL_law_366 rfl (lv_at hl 5 rfl) ?_
    refine lv_iload hx hb dL_law_367 (lv_at hl 1 rfl) ?_
    refine lv_iconst (v := nI 2) hx hb dL_law_369 (by decide) ?_
    refine sc_ld hx hb hX hbl hS (show i + 2 < Ln by omega) hLn dL_law_370 dL_law_371 ?_
    refine lv_aload_n hx hb dL_law_372 rfl (lv_at hl 5 rfl) ?_
    refine lv_iload hx hb dL_law_373 (lv_at hl 1 rfl) ?_
    refine lv_iconst (v := nI 3) hx hb dL_law_375 (by decide) ?_
    refine sc_ld hx hb hX hbl hS (show i + 3 < Ln by omega) hLn dL_law_376 dL_law_377 ?_
    refine mr_calli (As := [.int (xs (i + 1)), .int (xs (i + 2)), .int (xs (i + 3))]) (rest := []) ⟨hx, hb, hml, hown, hts⟩ (mt_rule l E ym ad L M (xs (i + 1)) (xs (i + 2)) (xs (i + 3))) (cwV 3 hts (lw_V q1092 q1093 q1094 q41 q1095) rfl rfl rfl (by decide +kernel) ⟨Nat.le_of_ble_eq_true rfl, Nat.le_of_ble_eq_true rfl⟩) trivial hK.1 hM hL9 hS rfl hl.1 rfl (Nat.le_of_ble_eq_true rfl) dL_law_378 ⟨(show _ ≤ 1200384 by omega), (show _ ≤ 5490858 by omega)⟩ (fun H locs hM hS hz hk => ?_)
    have hR := hR.kept (fun a ha hlt => hk a hlt (fun z => ha.2 z))
    refine W.eq (g2 := F0 m 381 ls [.int (mf_rule M (xs (i + 1)) (xs (i + 2)) (xs (i + 3))).1]) rfl ?_
    refine lv_istore (lv' := [(6, .int (mf_rule M (xs (i + 1)) (xs (i + 2)) (xs (i + 3))).1), (5, .int 0), (4, .int (nI i)), (3, .ref o), (2, .ref ym), (1, .ref (g 0 0)), (0, .ref b)]) hx hb dL_law_381 hl (by decide) rfl (fun ls hl => ?_)
    refine lv_aload_n hx hb dL_law_383 rfl (lv_at hl 4 rfl) ?_
    refine mr_calli (As := []) (rest := []) ⟨hx, hb, hml, hown, hts⟩ (mt_thrown l E ym ad L (mf_rule M (xs (i + 1)) (xs (i + 2)) (xs (i + 3))).2) (cwV 0 hts (lw_V q1067 q1068 q1069 q41 q1070) rfl rfl rfl (by decide +kernel) ⟨Nat.le_of_ble_eq_true rfl, Nat.le_of_ble_eq_true rfl⟩) trivial hK.1 hM hL9 hS rfl hl.1 rfl (Nat.le_of_ble_eq_true rfl) dL_law_384 ⟨(show _ ≤ 1200384 by omega), (show _ ≤ 5490858 by omega)⟩ (fun H locs hM hS hz hk => ?_)
    have hR := hR.kept (fun a ha hlt => hk a hlt (fun z => ha.2 z))
    refine W.eq (g2 := F0 m 387 ls [.int (mf_thrown (mf_rule M (xs (i + 1)) (xs (i + 2)) (xs (i + 3))).2)]) rfl ?_
    refine lv_iload hx hb dL_law_387 (lv_at hl 1 rfl) ?_
    refine lv_icmp_eq (tgt := 394) hx hb dL_law_389 (by decide) (fun _ => ?_) (fun h => absurd ht h)
    refine lv_iload hx hb dL_law_394 (lv_at hl 1 rfl) ?_
    refine lv_if_ne (tgt := 411) hx hb dL_law_396 (by decide) (fun h => absurd rfl h) (fun _ => ?_)
    refine lv_aload_n hx hb dL_law_399 rfl (lv_at hl 3 rfl) ?_
    refine lv_iconst (v := 0) hx hb dL_law_400 (by decide) ?_
    refine xo_lald hx hb hK.1 hR dL_law_401 ?_
    refine lv_iload hx hb dL_law_402 (lv_at hl 0 rfl) ?_
    refine lv_i2l (v := (mf_rule M (xs (i + 1)) (xs (i + 2)) (xs (i + 3))).1.toInt64) hx hb dL_law_404 rfl ?_
    have hvv : v' 0 = (mf_rule M (xs (i + 1)) (xs (i + 2)) (xs (i + 3))).1.toInt64 := by rw [hv', hr]
    refine W.eq (g2 := F0 m 405 ls [.long ((mf_rule M (xs (i + 1)) (xs (i + 2)) (xs (i + 3))).1.toInt64), .long ((mf_rule M (xs (i + 1)) (xs (i + 2)) (xs (i + 3))).1.toInt64)]) (congrArg (fun z => F0 m 405 ls [.long ((mf_rule M (xs (i + 1)) (xs (i + 2)) (xs (i + 3))).1.toInt64), .long z]) hvv) ?_
    refine lv_lcmpE hx hb dL_law_405 ?_
    refine lv_if_eq (tgt := 411) hx hb dL_law_406 (by decide) (fun _ => ?_) (fun h => absurd rfl h)
    refine lv_goto (tgt := 2388) hx hb dL_law_411 (by decide) ?_
    refine W.widen (k := cells + 870) (n := slots + 3850) (by omega) (by omega) ?_
    exact kk S' (mf_rule M (xs (i + 1)) (xs (i + 2)) (xs (i + 3))).2 H locs ls ⟨hCP2, ⟨g', h', v', hg0, hh', hR⟩, hM⟩ hS (lv_sub hl [2, 3, 4, 5, 6] rfl)
set_option maxHeartbeats 2000000 in
set_option maxRecDepth 100000 in
theorem lc_stop {CP : gs_T → gs_T → Prop} (hCPi : ∀ S M, CP S M → xi_ok S ∧ mi_ok M) (hc : ∀ S M (p1 : Int32) (p2 : Int32), CP S M → cl_P CP ["java/lang/IndexOutOfBoundsException", "java/lang/IllegalStateException"] (xp_stop S p1 p2) (mf_stop M p1 p2).1 (mf_stop M p1 p2).2 S) {l : Launch} {p : Program} {e : Env} {s : State} {m : MethodId} {below : List Frame} {meth : Method} {c : Code} {H : Heap} {locs : List Loc} {cells slots : Nat} {Q : State → Prop} {ls : Array Slot} {b Ln i : Nat} {xs : Nat → Int32} {E : en_T} {C : ex_C} {x0 ym o : Nat} {ad : Nat → Nat} {L : List Nat} {S M : gs_T} (hE : le_E l p s m meth c b Ln xs E C ym L) (hi : i + 8 ≤ Ln) (hW : LW CP E C s x0 ym o ad L S M H) (hS : va_S (la_9 s) s.heap H locs) (hl : lv_has ls 7 [(4, .int (nI i)), (3, .ref o), (2, .ref ym), (1, .ref x0), (0, .ref b)]) (hf : cells + 870 ≤ 1200384 ∧ slots + 3850 ≤ 5490858) (kk : ∀ (S' M' : gs_T) (H' : Heap) (locs' : List Loc) (ls' : Array Slot), LW CP E C s x0 ym o ad L S' M' H' → va_S (la_9 s) s.heap H' locs' → lv_has ls' 7 [(4, .int (nI i)), (3, .ref o), (2, .ref ym), (1, .ref x0), (0, .ref b)] → W p l e room_1 s m #[.ref b] below meth c H' locs' (cells + 870) (slots + 3850) Q (F0 m 2388 ls' [])) : W p l e room_1 s m #[.ref b] below meth c H locs cells slots Q (F0 m 414 ls []) := by
  obtain ⟨hx, hb, hml, hown, hts, hX, hbl, hK, hN, hZ, hfl, hL9, hLn⟩ := hE
  obtain ⟨hCP, ⟨g, h, v, hg0, hh, hR⟩, hM⟩ := hW
  obtain ⟨hI, hmi⟩ := hCPi S M hCP
  subst hg0
  refine lv_aload_n hx hb dL_law_414 rfl (lv_at hl 3 rfl) ?_
  refine lv_aload_n hx hb dL_law_415 rfl (lv_at hl 4 rfl) ?_
  refine lv_iload hx hb dL_law_416 (lv_at hl 0 rfl) ?_
  refine lv_iconst (v := nI 1) hx hb dL_law_418 (by decide) ?_
  refine sc_ld hx hb hX hbl hS (show i + 1 < Ln by omega) hLn dL_law_419 dL_law_420 ?_
  refine lv_aload_n hx hb dL_law_421 rfl (lv_at hl 4 rfl) ?_
  refine lv_iload hx hb dL_law_422 (lv_at hl 0 rfl) ?_
  refine lv_iconst (v := nI 2) hx hb dL_law_424 (by decide) ?_
  refine sc_ld hx hb hX hbl hS (show i + 2 < Ln by omega) hLn dL_law_425 dL_law_426 ?_
  refine lv_aload_n hx hb dL_law_427 rfl (lv_at hl 1 rfl) ?_
  have hcl := hc S M (xs (i + 1)) (xs (i + 2)) hCP
  have hmz : mi_ok M := hmi
  refine ls_S (As := [.ref (g 0 0), .int (xs (i + 1)), .int (xs (i + 2)), .ref o]) (rest := []) hK hN hZ hS (fun _ h => h.1) (la_new hS.1 (mr_lt hM)) hR ⟨hI, hh⟩ (wt_stop l hfl E C (la_A s L) H.size g h S o v (xs (i + 1)) (xs (i + 2))) ⟨hx, hb, hml, hown, hts⟩ (vx_cwSW 4 hts (lw_SW q360 q361 q32 q362) rfl rfl rfl (by decide +kernel) ⟨Nat.le_of_ble_eq_true rfl, Nat.le_of_ble_eq_true rfl⟩) rfl hl.1 rfl (Nat.le_of_ble_eq_true rfl) dL_law_428 ⟨(show _ ≤ 1200384 by omega), (show _ ≤ 5490858 by omega)⟩ (fun Xn ix v' H locs hxn hix hR hz hk hS => ?_) (fun r S' g' h' v' H locs hxn hg0 hh' hv' hR hz hk hS => ?_)
  · have hM := hM.kept (fun a ha hlt => hk a hlt (fun z => z.2 ha))
    obtain ⟨j, hj, ht, hCP2⟩ := hcl.1 Xn hxn
    have ej := li_ne (by decide) hix hj
    rw [← ej] at ht
    refine lv_istore (lv' := [(5, .int (nI (ix + 1))), (4, .int (nI i)), (3, .ref o), (2, .ref ym), (1, .ref (g 0 0)), (0, .ref b)]) hx hb dL_law_431 hl (by decide) rfl (fun ls hl => ?_)
    refine lv_aload_n hx hb dL_law_433 rfl (lv_at hl 3 rfl) ?_
    refine lv_aload_n hx hb dL_law_434 rfl (lv_at hl 5 rfl) ?_
    refine lv_iload hx hb dL_law_435 (lv_at hl 1 rfl) ?_
    refine lv_iconst (v := nI 1) hx hb dL_law_437 (by decide) ?_
    refine sc_ld hx hb hX hbl hS (show i + 1 < Ln by omega) hLn dL_law_438 dL_law_439 ?_
    refine lv_aload_n hx hb dL_law_440 rfl (lv_at hl 5 rfl) ?_
    refine lv_iload hx hb dL_law_441 (lv_at hl 1 rfl) ?_
    refine lv_iconst (v := nI 2) hx hb dL_law_443 (by decide) ?_
    refine sc_ld hx hb hX hbl hS (show i + 2 < Ln by omega) hLn dL_law_444 dL_law_445 ?_
    refine mr_calli (As := [.int (xs (i + 1)), .int (xs (i + 2))]) (rest := []) ⟨hx, hb, hml, hown, hts⟩ (mt_stop l E ym ad L M (xs (i + 1)) (xs (i + 2))) (cwV 2 hts (lw_V q1096 q1097 q1098 q41 q1099) rfl rfl rfl (by decide +kernel) ⟨Nat.le_of_ble_eq_true rfl, Nat.le_of_ble_eq_true rfl⟩) trivial hK.1 hM hL9 hS rfl hl.1 rfl (Nat.le_of_ble_eq_true rfl) dL_law_446 ⟨(show _ ≤ 1200384 by omega), (show _ ≤ 5490858 by omega)⟩ (fun H locs hM hS hz hk => ?_)
    have hR := hR.kept (fun a ha hlt => hk a hlt (fun z => ha.2 z))
    refine W.eq (g2 := F0 m 449 ls [.int (mf_stop M (xs (i + 1)) (xs (i + 2))).1]) rfl ?_
    refine lv_istore (lv' := [(6, .int (mf_stop M (xs (i + 1)) (xs (i + 2))).1), (5, .int (nI (ix + 1))), (4, .int (nI i)), (3, .ref o), (2, .ref ym), (1, .ref (g 0 0)), (0, .ref b)]) hx hb dL_law_449 hl (by decide) rfl (fun ls hl => ?_)
    refine lv_aload_n hx hb dL_law_451 rfl (lv_at hl 4 rfl) ?_
    refine mr_calli (As := []) (rest := []) ⟨hx, hb, hml, hown, hts⟩ (mt_thrown l E ym ad L (mf_stop M (xs (i + 1)) (xs (i + 2))).2) (cwV 0 hts (lw_V q1067 q1068 q1069 q41 q1070) rfl rfl rfl (by decide +kernel) ⟨Nat.le_of_ble_eq_true rfl, Nat.le_of_ble_eq_true rfl⟩) trivial hK.1 hM hL9 hS rfl hl.1 rfl (Nat.le_of_ble_eq_true rfl) dL_law_452 ⟨(show _ ≤ 1200384 by omega), (show _ ≤ 5490858 by omega)⟩ (fun H locs hM hS hz hk => ?_)
    have hR := hR.kept (fun a ha hlt => hk a hlt (fun z => ha.2 z))
    refine W.eq (g2 := F0 m 455 ls [.int (mf_thrown (mf_stop M (xs (i + 1)) (xs (i + 2))).2)]) rfl ?_
    refine lv_iload hx hb dL_law_455 (lv_at hl 1 rfl) ?_
    refine lv_icmp_eq (tgt := 462) hx hb dL_law_457 (by decide) (fun _ => ?_) (fun h => absurd ht h)
    refine lv_iload hx hb dL_law_462 (lv_at hl 1 rfl) ?_
    refine lv_if_ne (tgt := 479) hx hb dL_law_464 (by decide) (fun _ => ?_) (fun h => absurd h (li_n0 (by decide) hix))
    refine lv_goto (tgt := 2388) hx hb dL_law_479 (by decide) ?_
    refine W.widen (k := cells + 870) (n := slots + 3850) (by omega) (by omega) ?_
    exact kk S (mf_stop M (xs (i + 1)) (xs (i + 2))).2 H locs ls ⟨hCP2, ⟨g, h, v', rfl, hh, hR⟩, hM⟩ hS (lv_sub hl [2, 3, 4, 5, 6] rfl)
  · have hM := hM.kept (fun a ha hlt => hk a hlt (fun z => z.2 ha))
    obtain ⟨ht, hr, hCP2⟩ := hcl.2 r S' hxn
    refine lv_istore (lv' := [(5, .int 0), (4, .int (nI i)), (3, .ref o), (2, .ref ym), (1, .ref (g 0 0)), (0, .ref b)]) hx hb dL_law_431 hl (by decide) rfl (fun ls hl => ?_)
    refine lv_aload_n hx hb dL_law_433 rfl (lv_at hl 3 rfl) ?_
    refine lv_aload_n hx hb dL_law_434 rfl (lv_at hl 5 rfl) ?_
    refine lv_iload hx hb dL_law_435 (lv_at hl 1 rfl) ?_
    refine lv_iconst (v := nI 1) hx hb dL_law_437 (by decide) ?_
    refine sc_ld hx hb hX hbl hS (show i + 1 < Ln by omega) hLn dL_law_438 dL_law_439 ?_
    refine lv_aload_n hx hb dL_law_440 rfl (lv_at hl 5 rfl) ?_
    refine lv_iload hx hb dL_law_441 (lv_at hl 1 rfl) ?_
    refine lv_iconst (v := nI 2) hx hb dL_law_443 (by decide) ?_
    refine sc_ld hx hb hX hbl hS (show i + 2 < Ln by omega) hLn dL_law_444 dL_law_445 ?_
    refine mr_calli (As := [.int (xs (i + 1)), .int (xs (i + 2))]) (rest := []) ⟨hx, hb, hml, hown, hts⟩ (mt_stop l E ym ad L M (xs (i + 1)) (xs (i + 2))) (cwV 2 hts (lw_V q1096 q1097 q1098 q41 q1099) rfl rfl rfl (by decide +kernel) ⟨Nat.le_of_ble_eq_true rfl, Nat.le_of_ble_eq_true rfl⟩) trivial hK.1 hM hL9 hS rfl hl.1 rfl (Nat.le_of_ble_eq_true rfl) dL_law_446 ⟨(show _ ≤ 1200384 by omega), (show _ ≤ 5490858 by omega)⟩ (fun H locs hM hS hz hk => ?_)
    have hR := hR.kept (fun a ha hlt => hk a hlt (fun z => ha.2 z))
    refine W.eq (g2 := F0 m 449 ls [.int (mf_stop M (xs (i + 1)) (xs (i + 2))).1]) rfl ?_
    refine lv_istore (lv' := [(6, .int (mf_stop M (xs (i + 1)) (xs (i + 2))).1), (5, .int 0), (4, .int (nI i)), (3, .ref o), (2, .ref ym), (1, .ref (g 0 0)), (0, .ref b)]) hx hb dL_law_449 hl (by decide) rfl (fun ls hl => ?_)
    refine lv_aload_n hx hb dL_law_451 rfl (lv_at hl 4 rfl) ?_
    refine mr_calli (As := []) (rest := []) ⟨hx, hb, hml, hown, hts⟩ (mt_thrown l E ym ad L (mf_stop M (xs (i + 1)) (xs (i + 2))).2) (cwV 0 hts (lw_V q1067 q1068 q1069 q41 q1070) rfl rfl rfl (by decide +kernel) ⟨Nat.le_of_ble_eq_true rfl, Nat.le_of_ble_eq_true rfl⟩) trivial hK.1 hM hL9 hS rfl hl.1 rfl (Nat.le_of_ble_eq_true rfl) dL_law_452 ⟨(show _ ≤ 1200384 by omega), (show _ ≤ 5490858 by omega)⟩ (fun H locs hM hS hz hk => ?_)
    have hR := hR.kept (fun a ha hlt => hk a hlt (fun z => ha.2 z))
    refine W.eq (g2 := F0 m 455 ls [.int (mf_thrown (mf_stop M (xs (i + 1)) (xs (i + 2))).2)]) rfl ?_
    refine lv_iload hx hb dL_law_455 (lv_at hl 1 rfl) ?_
    refine lv_icmp_eq (tgt := 462) hx hb dL_law_457 (by decide) (fun _ => ?_) (fun h => absurd ht h)
    refine lv_iload hx hb dL_law_462 (lv_at hl 1 rfl) ?_
    refine lv_if_ne (tgt := 479) hx hb dL_law_464 (by decide) (fun h => absurd rfl h) (fun _ => ?_)
    refine lv_aload_n hx hb dL_law_467 rfl (lv_at hl 3 rfl) ?_
    refine lv_iconst (v := 0) hx hb dL_law_468 (by decide) ?_
    refine xo_lald hx hb hK.1 hR dL_law_469 ?_
    refine lv_iload hx hb dL_law_470 (lv_at hl 0 rfl) ?_
    refine lv_i2l (v := (mf_stop M (xs (i + 1)) (xs (i + 2))).1.toInt64) hx hb dL_law_472 rfl ?_
    have hvv : v' 0 = (mf_stop M (xs (i + 1)) (xs (i + 2))).1.toInt64 := by rw [hv', hr]
    refine W.eq (g2 := F0 m 473 ls [.long ((mf_stop M (xs (i + 1)) (xs (i + 2))).1.toInt64), .long ((mf_stop M (xs (i + 1)) (xs (i + 2))).1.toInt64)]) (congrArg (fun z => F0 m 473 ls [.long ((mf_stop M (xs (i + 1)) (xs (i + 2))).1.toInt64), .long z]) hvv) ?_
    refine lv_lcmpE hx hb dL_law_473 ?_
    refine lv_if_eq (tgt := 479) hx hb dL_law_474 (by decide) (fun _ => ?_) (fun h => absurd rfl h)
    refine lv_goto (tgt := 2388) hx hb dL_law_479 (by decide) ?_
    refine W.widen (k := cells + 870) (n := slots + 3850) (by omega) (by omega) ?_
    exact kk S' (mf_stop M (xs (i + 1)) (xs (i + 2))).2 H locs ls ⟨hCP2, ⟨g', h', v', hg0, hh', hR⟩, hM⟩ hS (lv_sub hl [2, 3, 4, 5, 6] rfl)
set_option maxHeartbeats 2000000 in
set_option maxRecDepth 100000 in
theorem lc_threshold {CP : gs_T → gs_T → Prop} (hCPi : ∀ S M, CP S M → xi_ok S ∧ mi_ok M) (hc : ∀ S M (p1 : Int32), CP S M → cl_P CP ["java/lang/IllegalArgumentException"] (xp_threshold S p1) (mf_threshold M p1).1 (mf_threshold M p1).2 S) {l : Launch} {p : Program} {e : Env} {s : State} {m : MethodId} {below : List Frame} {meth : Method} {c : Code} {H : Heap} {locs : List Loc} {cells slots : Nat} {Q : State → Prop} {ls : Array Slot} {b Ln i : Nat} {xs : Nat → Int32} {E : en_T} {C : ex_C} {x0 ym o : Nat} {ad : Nat → Nat} {L : List Nat} {S M : gs_T} (hE : le_E l p s m meth c b Ln xs E C ym L) (hi : i + 8 ≤ Ln) (hW : LW CP E C s x0 ym o ad L S M H) (hS : va_S (la_9 s) s.heap H locs) (hl : lv_has ls 7 [(4, .int (nI i)), (3, .ref o), (2, .ref ym), (1, .ref x0), (0, .ref b)]) (hf : cells + 870 ≤ 1200384 ∧ slots + 3850 ≤ 5490858) (kk : ∀ (S' M' : gs_T) (H' : Heap) (locs' : List Loc) (ls' : Array Slot), LW CP E C s x0 ym o ad L S' M' H' → va_S (la_9 s) s.heap H' locs' → lv_has ls' 7 [(4, .int (nI i)), (3, .ref o), (2, .ref ym), (1, .ref x0), (0, .ref b)] → W p l e room_1 s m #[.ref b] below meth c H' locs' (cells + 870) (slots + 3850) Q (F0 m 2388 ls' [])) : W p l e room_1 s m #[.ref b] below meth c H locs cells slots Q (F0 m 482 ls []) := by
  obtain ⟨hx, hb, hml, hown, hts, hX, hbl, hK, hN, hZ, hfl, hL9, hLn⟩ := hE
  obtain ⟨hCP, ⟨g, h, v, hg0, hh, hR⟩, hM⟩ := hW
  obtain ⟨hI, hmi⟩ := hCPi S M hCP
  subst hg0
  refine lv_aload_n hx hb dL_law_482 rfl (lv_at hl 3 rfl) ?_
  refine lv_aload_n hx hb dL_law_483 rfl (lv_at hl 4 rfl) ?_
  refine lv_iload hx hb dL_law_484 (lv_at hl 0 rfl) ?_
  refine lv_iconst (v := nI 1) hx hb dL_law_486 (by decide) ?_
  refine sc_ld hx hb hX hbl hS (show i + 1 < Ln by omega) hLn dL_law_487 dL_law_488 ?_
  refine lv_aload_n hx hb dL_law_489 rfl (lv_at hl 1 rfl) ?_
  have hcl := hc S M (xs (i + 1)) hCP
  have hmz : mi_ok M := hmi
  refine ls_S (As := [.ref (g 0 0), .int (xs (i + 1)), .ref o]) (rest := []) hK hN hZ hS (fun _ h => h.1) (la_new hS.1 (mr_lt hM)) hR ⟨hI, hh⟩ (wt_threshold l hfl E C (la_A s L) H.size g h S o v (xs (i + 1))) ⟨hx, hb, hml, hown, hts⟩ (vx_cwSW 3 hts (lw_SW q475 q476 q32 q477) rfl rfl rfl (by decide +kernel) ⟨Nat.le_of_ble_eq_true rfl, Nat.le_of_ble_eq_true rfl⟩) rfl hl.1 rfl (Nat.le_of_ble_eq_true rfl) dL_law_490 ⟨(show _ ≤ 1200384 by omega), (show _ ≤ 5490858 by omega)⟩ (fun Xn ix v' H locs hxn hix hR hz hk hS => ?_) (fun r S' g' h' v' H locs hxn hg0 hh' hv' hR hz hk hS => ?_)
  · have hM := hM.kept (fun a ha hlt => hk a hlt (fun z => z.2 ha))
    obtain ⟨j, hj, ht, hCP2⟩ := hcl.1 Xn hxn
    have ej := li_ne (by decide) hix hj
    rw [← ej] at ht
    refine lv_istore (lv' := [(5, .int (nI (ix + 1))), (4, .int (nI i)), (3, .ref o), (2, .ref ym), (1, .ref (g 0 0)), (0, .ref b)]) hx hb dL_law_493 hl (by decide) rfl (fun ls hl => ?_)
    refine lv_aload_n hx hb dL_law_495 rfl (lv_at hl 3 rfl) ?_
    refine lv_aload_n hx hb dL_law_496 rfl (lv_at hl 5 rfl) ?_
    refine lv_iload hx hb dL_law_497 (lv_at hl 1 rfl) ?_
    refine lv_iconst (v := nI 1) hx hb dL_law_499 (by decide) ?_
    refine sc_ld hx hb hX hbl hS (show i + 1 < Ln by omega) hLn dL_law_500 dL_law_501 ?_
    refine mr_calli (As := [.int (xs (i + 1))]) (rest := []) ⟨hx, hb, hml, hown, hts⟩ (mt_threshold l E ym ad L M (xs (i + 1))) (cwV 1 hts (lw_V q1106 q1107 q1108 q41 q1109) rfl rfl rfl (by decide +kernel) ⟨Nat.le_of_ble_eq_true rfl, Nat.le_of_ble_eq_true rfl⟩) trivial hK.1 hM hL9 hS rfl hl.1 rfl (Nat.le_of_ble_eq_true rfl) dL_law_502 ⟨(show _ ≤ 1200384 by omega), (show _ ≤ 5490858 by omega)⟩ (fun H locs hM hS hz hk => ?_)
    have hR := hR.kept (fun a ha hlt => hk a hlt (fun z => ha.2 z))
    refine W.eq (g2 := F0 m 505 ls [.int (mf_threshold M (xs (i + 1))).1]) rfl ?_
    refine lv_istore (lv' := [(6, .int (mf_threshold M (xs (i + 1))).1), (5, .int (nI (ix + 1))), (4, .int (nI i)), (3, .ref o), (2, .ref ym), (1, .ref (g 0 0)), (0, .ref b)]) hx hb dL_law_505 hl (by decide) rfl (fun ls hl => ?_)
    refine lv_aload_n hx hb dL_law_507 rfl (lv_at hl 4 rfl) ?_
    refine mr_calli (As := []) (rest := []) ⟨hx, hb, hml, hown, hts⟩ (mt_thrown l E ym ad L (mf_threshold M (xs (i + 1))).2) (cwV 0 hts (lw_V q1067 q1068 q1069 q41 q1070) rfl rfl rfl (by decide +kernel) ⟨Nat.le_of_ble_eq_true rfl, Nat.le_of_ble_eq_true rfl⟩) trivial hK.1 hM hL9 hS rfl hl.1 rfl (Nat.le_of_ble_eq_true rfl) dL_law_508 ⟨(show _ ≤ 1200384 by omega), (show _ ≤ 5490858 by omega)⟩ (fun H locs hM hS hz hk => ?_)
    have hR := hR.kept (fun a ha hlt => hk a hlt (fun z => ha.2 z))
    refine W.eq (g2 := F0 m 511 ls [.int (mf_thrown (mf_threshold M (xs (i + 1))).2)]) rfl ?_
    refine lv_iload hx hb dL_law_511 (lv_at hl 1 rfl) ?_
    refine lv_icmp_eq (tgt := 518) hx hb dL_law_513 (by decide) (fun _ => ?_) (fun h => absurd ht h)
    refine lv_iload hx hb dL_law_518 (lv_at hl 1 rfl) ?_
    refine lv_if_ne (tgt := 535) hx hb dL_law_520 (by decide) (fun _ => ?_) (fun h => absurd h (li_n0 (by decide) hix))
    refine lv_goto (tgt := 2388) hx hb dL_law_535 (by decide) ?_
    refine W.widen (k := cells + 870) (n := slots + 3850) (by omega) (by omega) ?_
    exact kk S (mf_threshold M (xs (i + 1))).2 H locs ls ⟨hCP2, ⟨g, h, v', rfl, hh, hR⟩, hM⟩ hS (lv_sub hl [2, 3, 4, 5, 6] rfl)
  · have hM := hM.kept (fun a ha hlt => hk a hlt (fun z => z.2 ha))
    obtain ⟨ht, hr, hCP2⟩ := hcl.2 r S' hxn
    refine lv_istore (lv' := [(5, .int 0), (4, .int (nI i)), (3, .ref o), (2, .ref ym), (1, .ref (g 0 0)), (0, .ref b)]) hx hb dL_law_493 hl (by decide) rfl (fun ls hl => ?_)
    refine lv_aload_n hx hb dL_law_495 rfl (lv_at hl 3 rfl) ?_
    refine lv_aload_n hx hb dL_law_496 rfl (lv_at hl 5 rfl) ?_
    refine lv_iload hx hb dL_law_497 (lv_at hl 1 rfl) ?_
    refine lv_iconst (v := nI 1) hx hb dL_law_499 (by decide) ?_
    refine sc_ld hx hb hX hbl hS (show i + 1 < Ln by omega) hLn dL_law_500 dL_law_501 ?_
    refine mr_calli (As := [.int (xs (i + 1))]) (rest := []) ⟨hx, hb, hml, hown, hts⟩ (mt_threshold l E ym ad L M (xs (i + 1))) (cwV 1 hts (lw_V q1106 q1107 q1108 q41 q1109) rfl rfl rfl (by decide +kernel) ⟨Nat.le_of_ble_eq_true rfl, Nat.le_of_ble_eq_true rfl⟩) trivial hK.1 hM hL9 hS rfl hl.1 rfl (Nat.le_of_ble_eq_true rfl) dL_law_502 ⟨(show _ ≤ 1200384 by omega), (show _ ≤ 5490858 by omega)⟩ (fun H locs hM hS hz hk => ?_)
    have hR := hR.kept (fun a ha hlt => hk a hlt (fun z => ha.2 z))
    refine W.eq (g2 := F0 m 505 ls [.int (mf_threshold M (xs (i + 1))).1]) rfl ?_
    refine lv_istore (lv' := [(6, .int (mf_threshold M (xs (i + 1))).1), (5, .int 0), (4, .int (nI i)), (3, .ref o), (2, .ref ym), (1, .ref (g 0 0)), (0, .ref b)]) hx hb dL_law_505 hl (by decide) rfl (fun ls hl => ?_)
    refine lv_aload_n hx hb dL_law_507 rfl (lv_at hl 4 rfl) ?_
    refine mr_calli (As := []) (rest := []) ⟨hx, hb, hml, hown, hts⟩ (mt_thrown l E ym ad L (mf_threshold M (xs (i + 1))).2) (cwV 0 hts (lw_V q1067 q1068 q1069 q41 q1070) rfl rfl rfl (by decide +kernel) ⟨Nat.le_of_ble_eq_true rfl, Nat.le_of_ble_eq_true rfl⟩) trivial hK.1 hM hL9 hS rfl hl.1 rfl (Nat.le_of_ble_eq_true rfl) dL_law_508 ⟨(show _ ≤ 1200384 by omega), (show _ ≤ 5490858 by omega)⟩ (fun H locs hM hS hz hk => ?_)
    have hR := hR.kept (fun a ha hlt => hk a hlt (fun z => ha.2 z))
    refine W.eq (g2 := F0 m 511 ls [.int (mf_thrown (mf_threshold M (xs (i + 1))).2)]) rfl ?_
    refine lv_iload hx hb dL_law_511 (lv_at hl 1 rfl) ?_
    refine lv_icmp_eq (tgt := 518) hx hb dL_law_513 (by decide) (fun _ => ?_) (fun h => absurd ht h)
    refine lv_iload hx hb dL_law_518 (lv_at hl 1 rfl) ?_
    refine lv_if_ne (tgt := 535) hx hb dL_law_520 (by decide) (fun h => absurd rfl h) (fun _ => ?_)
    refine lv_aload_n hx hb dL_law_523 rfl (lv_at hl 3 rfl) ?_
    refine lv_iconst (v := 0) hx hb dL_law_524 (by decide) ?_
    refine xo_lald hx hb hK.1 hR dL_law_525 ?_
    refine lv_iload hx hb dL_law_526 (lv_at hl 0 rfl) ?_
    refine lv_i2l (v := (mf_threshold M (xs (i + 1))).1.toInt64) hx hb dL_law_528 rfl ?_
    have hvv : v' 0 = (mf_threshold M (xs (i + 1))).1.toInt64 := by rw [hv', hr]
    refine W.eq (g2 := F0 m 529 ls [.long ((mf_threshold M (xs (i + 1))).1.toInt64), .long ((mf_threshold M (xs (i + 1))).1.toInt64)]) (congrArg (fun z => F0 m 529 ls [.long ((mf_threshold M (xs (i + 1))).1.toInt64), .long z]) hvv) ?_
    refine lv_lcmpE hx hb dL_law_529 ?_
    refine lv_if_eq (tgt := 535) hx hb dL_law_530 (by decide) (fun _ => ?_) (fun h => absurd rfl h)
    refine lv_goto (tgt := 2388) hx hb dL_law_535 (by decide) ?_
    refine W.widen (k := cells + 870) (n := slots + 3850) (by omega) (by omega) ?_
    exact kk S' (mf_threshold M (xs (i + 1))).2 H locs ls ⟨hCP2, ⟨g', h', v', hg0, hh', hR⟩, hM⟩ hS (lv_sub hl [2, 3, 4, 5, 6] rfl)
set_option maxHeartbeats 2000000 in
set_option maxRecDepth 100000 in
theorem lc_find {CP : gs_T → gs_T → Prop} (hCPi : ∀ S M, CP S M → xi_ok S ∧ mi_ok M) (hc : ∀ S M (p1 : Int32) (p2 : Int32) (p3 : Int32) (p4 : Int32) (p5 : Int32) (p6 : Int32) (p7 : Int32), CP S M → cl_P CP ["java/lang/IndexOutOfBoundsException", "java/lang/IllegalArgumentException", "java/lang/IllegalStateException"] (xp_find S p1 p2 p3 p4 p5 p6 p7) (mf_find M p1 p2 p3 p4 p5 p6 p7).1 (mf_find M p1 p2 p3 p4 p5 p6 p7).2 S) {l : Launch} {p : Program} {e : Env} {s : State} {m : MethodId} {below : List Frame} {meth : Method} {c : Code} {H : Heap} {locs : List Loc} {cells slots : Nat} {Q : State → Prop} {ls : Array Slot} {b Ln i : Nat} {xs : Nat → Int32} {E : en_T} {C : ex_C} {x0 ym o : Nat} {ad : Nat → Nat} {L : List Nat} {S M : gs_T} (hE : le_E l p s m meth c b Ln xs E C ym L) (hi : i + 8 ≤ Ln) (hW : LW CP E C s x0 ym o ad L S M H) (hS : va_S (la_9 s) s.heap H locs) (hl : lv_has ls 7 [(4, .int (nI i)), (3, .ref o), (2, .ref ym), (1, .ref x0), (0, .ref b)]) (hf : cells + 870 ≤ 1200384 ∧ slots + 3850 ≤ 5490858) (kk : ∀ (S' M' : gs_T) (H' : Heap) (locs' : List Loc) (ls' : Array Slot), LW CP E C s x0 ym o ad L S' M' H' → va_S (la_9 s) s.heap H' locs' → lv_has ls' 7 [(4, .int (nI i)), (3, .ref o), (2, .ref ym), (1, .ref x0), (0, .ref b)] → W p l e room_1 s m #[.ref b] below meth c H' locs' (cells + 870) (slots + 3850) Q (F0 m 2388 ls' [])) : W p l e room_1 s m #[.ref b] below meth c H locs cells slots Q (F0 m 538 ls []) := by
  obtain ⟨hx, hb, hml, hown, hts, hX, hbl, hK, hN, hZ, hfl, hL9, hLn⟩ := hE
  obtain ⟨hCP, ⟨g, h, v, hg0, hh, hR⟩, hM⟩ := hW
  obtain ⟨hI, hmi⟩ := hCPi S M hCP
  subst hg0
  refine lv_aload_n hx hb dL_law_538 rfl (lv_at hl 3 rfl) ?_
  refine lv_aload_n hx hb dL_law_539 rfl (lv_at hl 4 rfl) ?_
  refine lv_iload hx hb dL_law_540 (lv_at hl 0 rfl) ?_
  refine lv_iconst (v := nI 1) hx hb dL_law_542 (by decide) ?_
  refine sc_ld hx hb hX hbl hS (show i + 1 < Ln by omega) hLn dL_law_543 dL_law_544 ?_
  refine lv_aload_n hx hb dL_law_545 rfl (lv_at hl 4 rfl) ?_
  refine lv_iload hx hb dL_law_546 (lv_at hl 0 rfl) ?_
  refine lv_iconst (v := nI 2) hx hb dL_law_548 (by decide) ?_
  refine sc_ld hx hb hX hbl hS (show i + 2 < Ln by omega) hLn dL_law_549 dL_law_550 ?_
  refine lv_aload_n hx hb dL_law_551 rfl (lv_at hl 4 rfl) ?_
  refine lv_iload hx hb dL_law_552 (lv_at hl 0 rfl) ?_
  refine lv_iconst (v := nI 3) hx hb dL_law_554 (by decide) ?_
  refine sc_ld hx hb hX hbl hS (show i + 3 < Ln by omega) hLn dL_law_555 dL_law_556 ?_
  refine lv_aload_n hx hb dL_law_557 rfl (lv_at hl 4 rfl) ?_
  refine lv_iload hx hb dL_law_558 (lv_at hl 0 rfl) ?_
  refine lv_iconst (v := nI 4) hx hb dL_law_560 (by decide) ?_
  refine sc_ld hx hb hX hbl hS (show i + 4 < Ln by omega) hLn dL_law_561 dL_law_562 ?_
  refine lv_aload_n hx hb dL_law_563 rfl (lv_at hl 4 rfl) ?_
  refine lv_iload hx hb dL_law_564 (lv_at hl 0 rfl) ?_
  refine lv_iconst (v := nI 5) hx hb dL_law_566 (by decide) ?_
  refine sc_ld hx hb hX hbl hS (show i + 5 < Ln by omega) hLn dL_law_567 dL_law_568 ?_
  refine lv_aload_n hx hb dL_law_569 rfl (lv_at hl 4 rfl) ?_
  refine lv_iload hx hb dL_law_570 (lv_at hl 0 rfl) ?_
  refine lv_bipush (v := nI 6) hx hb dL_law_572 (by decide) ?_
  refine sc_ld hx hb hX hbl hS (show i + 6 < Ln by omega) hLn dL_law_574 dL_law_575 ?_
  refine lv_aload_n hx hb dL_law_576 rfl (lv_at hl 4 rfl) ?_
  refine lv_iload hx hb dL_law_577 (lv_at hl 0 rfl) ?_
  refine lv_bipush (v := nI 7) hx hb dL_law_579 (by decide) ?_
  refine sc_ld hx hb hX hbl hS (show i + 7 < Ln by omega) hLn dL_law_581 dL_law_582 ?_
  refine lv_aload_n hx hb dL_law_583 rfl (lv_at hl 1 rfl) ?_
  have hcl := hc S M (xs (i + 1)) (xs (i + 2)) (xs (i + 3)) (xs (i + 4)) (xs (i + 5)) (xs (i + 6)) (xs (i + 7)) hCP
  have hmz : mi_ok M := hmi
  refine ls_S (As := [.ref (g 0 0), .int (xs (i + 1)), .int (xs (i + 2)), .int (xs (i + 3)), .int (xs (i + 4)), .int (xs (i + 5)), .int (xs (i + 6)), .int (xs (i + 7)), .ref o]) (rest := []) hK hN hZ hS (fun _ h => h.1) (la_new hS.1 (mr_lt hM)) hR ⟨hI, hh⟩ (wt_find l hfl E C (la_A s L) H.size g h S o v (xs (i + 1)) (xs (i + 2)) (xs (i + 3)) (xs (i + 4)) (xs (i + 5)) (xs (i + 6)) (xs (i + 7))) ⟨hx, hb, hml, hown, hts⟩ (vx_cwSW 9 hts (lw_SW q482 q483 q32 q484) rfl rfl rfl (by decide +kernel) ⟨Nat.le_of_ble_eq_true rfl, Nat.le_of_ble_eq_true rfl⟩) rfl hl.1 rfl (Nat.le_of_ble_eq_true rfl) dL_law_584 ⟨(show _ ≤ 1200384 by omega), (show _ ≤ 5490858 by omega)⟩ (fun Xn ix v' H locs hxn hix hR hz hk hS => ?_) (fun r S' g' h' v' H locs hxn hg0 hh' hv' hR hz hk hS => ?_)
  · have hM := hM.kept (fun a ha hlt => hk a hlt (fun z => z.2 ha))
    obtain ⟨j, hj, ht, hCP2⟩ := hcl.1 Xn hxn
    have ej := li_ne (by decide) hix hj
    rw [← ej] at ht
    refine lv_istore (lv' := [(5, .int (nI (ix + 1))), (4, .int (nI i)), (3, .ref o), (2, .ref ym), (1, .ref (g 0 0)), (0, .ref b)]) hx hb dL_law_587 hl (by decide) rfl (fun ls hl => ?_)
    refine lv_aload_n hx hb dL_law_589 rfl (lv_at hl 3 rfl) ?_
    refine lv_aload_n hx hb dL_law_590 rfl (lv_at hl 5 rfl) ?_
    refine lv_iload hx hb dL_law_591 (lv_at hl 1 rfl) ?_
    refine lv_iconst (v := nI 1) hx hb dL_law_593 (by decide) ?_
    refine sc_ld hx hb hX hbl hS (show i + 1 < Ln by omega) hLn dL_law_594 dL_law_595 ?_
    refine lv_aload_n hx hb dL_law_596 rfl (lv_at hl 5 rfl) ?_
    refine lv_iload hx hb dL_law_597 (lv_at hl 1 rfl) ?_
    refine lv_iconst (v := nI 2) hx hb dL_law_599 (by decide) ?_
    refine sc_ld hx hb hX hbl hS (show i + 2 < Ln by omega) hLn dL_law_600 dL_law_601 ?_
    refine lv_aload_n hx hb dL_law_602 rfl (lv_at hl 5 rfl) ?_
    refine lv_iload hx hb dL_law_603 (lv_at hl 1 rfl) ?_
    refine lv_iconst (v := nI 3) hx hb dL_law_605 (by decide) ?_
    refine sc_ld hx hb hX hbl hS (show i + 3 < Ln by omega) hLn dL_law_606 dL_law_607 ?_
    refine lv_aload_n hx hb dL_law_608 rfl (lv_at hl 5 rfl) ?_
    refine lv_iload hx hb dL_law_609 (lv_at hl 1 rfl) ?_
    refine lv_iconst (v := nI 4) hx hb dL_law_611 (by decide) ?_
    refine sc_ld hx hb hX hbl hS (show i + 4 < Ln by omega) hLn dL_law_612 dL_law_613 ?_
    refine lv_aload_n hx hb dL_law_614 rfl (lv_at hl 5 rfl) ?_
    refine lv_iload hx hb dL_law_615 (lv_at hl 1 rfl) ?_
    refine lv_iconst (v := nI 5) hx hb dL_law_617 (by decide) ?_
    refine sc_ld hx hb hX hbl hS (show i + 5 < Ln by omega) hLn dL_law_618 dL_law_619 ?_
    refine lv_aload_n hx hb dL_law_620 rfl (lv_at hl 5 rfl) ?_
    refine lv_iload hx hb dL_law_621 (lv_at hl 1 rfl) ?_
    refine lv_bipush (v := nI 6) hx hb dL_law_623 (by decide) ?_
    refine sc_ld hx hb hX hbl hS (show i + 6 < Ln by omega) hLn dL_law_625 dL_law_626 ?_
    refine lv_aload_n hx hb dL_law_627 rfl (lv_at hl 5 rfl) ?_
    refine lv_iload hx hb dL_law_628 (lv_at hl 1 rfl) ?_
    refine lv_bipush (v := nI 7) hx hb dL_law_630 (by decide) ?_
    refine sc_ld hx hb hX hbl hS (show i + 7 < Ln by omega) hLn dL_law_632 dL_law_633 ?_
    refine mr_calli (As := [.int (xs (i + 1)), .int (xs (i + 2)), .int (xs (i + 3)), .int (xs (i + 4)), .int (xs (i + 5)), .int (xs (i + 6)), .int (xs (i + 7))]) (rest := []) ⟨hx, hb, hml, hown, hts⟩ (mt_find l E ym ad L M (xs (i + 1)) (xs (i + 2)) (xs (i + 3)) (xs (i + 4)) (xs (i + 5)) (xs (i + 6)) (xs (i + 7))) (cwV 7 hts (lw_V q1110 q1111 q1112 q41 q1113) rfl rfl rfl (by decide +kernel) ⟨Nat.le_of_ble_eq_true rfl, Nat.le_of_ble_eq_true rfl⟩) hmz hK.1 hM hL9 hS rfl hl.1 rfl (Nat.le_of_ble_eq_true rfl) dL_law_634 ⟨(show _ ≤ 1200384 by omega), (show _ ≤ 5490858 by omega)⟩ (fun H locs hM hS hz hk => ?_)
    have hR := hR.kept (fun a ha hlt => hk a hlt (fun z => ha.2 z))
    refine W.eq (g2 := F0 m 637 ls [.int (mf_find M (xs (i + 1)) (xs (i + 2)) (xs (i + 3)) (xs (i + 4)) (xs (i + 5)) (xs (i + 6)) (xs (i + 7))).1]) rfl ?_
    refine lv_istore (lv' := [(6, .int (mf_find M (xs (i + 1)) (xs (i + 2)) (xs (i + 3)) (xs (i + 4)) (xs (i + 5)) (xs (i + 6)) (xs (i + 7))).1), (5, .int (nI (ix + 1))), (4, .int (nI i)), (3, .ref o), (2, .ref ym), (1, .ref (g 0 0)), (0, .ref b)]) hx hb dL_law_637 hl (by decide) rfl (fun ls hl => ?_)
    refine lv_aload_n hx hb dL_law_639 rfl (lv_at hl 4 rfl) ?_
    refine mr_calli (As := []) (rest := []) ⟨hx, hb, hml, hown, hts⟩ (mt_thrown l E ym ad L (mf_find M (xs (i + 1)) (xs (i + 2)) (xs (i + 3)) (xs (i + 4)) (xs (i + 5)) (xs (i + 6)) (xs (i + 7))).2) (cwV 0 hts (lw_V q1067 q1068 q1069 q41 q1070) rfl rfl rfl (by decide +kernel) ⟨Nat.le_of_ble_eq_true rfl, Nat.le_of_ble_eq_true rfl⟩) trivial hK.1 hM hL9 hS rfl hl.1 rfl (Nat.le_of_ble_eq_true rfl) dL_law_640 ⟨(show _ ≤ 1200384 by omega), (show _ ≤ 5490858 by omega)⟩ (fun H locs hM hS hz hk => ?_)
    have hR := hR.kept (fun a ha hlt => hk a hlt (fun z => ha.2 z))
    refine W.eq (g2 := F0 m 643 ls [.int (mf_thrown (mf_find M (xs (i + 1)) (xs (i + 2)) (xs (i + 3)) (xs (i + 4)) (xs (i + 5)) (xs (i + 6)) (xs (i + 7))).2)]) rfl ?_
    refine lv_iload hx hb dL_law_643 (lv_at hl 1 rfl) ?_
    refine lv_icmp_eq (tgt := 650) hx hb dL_law_645 (by decide) (fun _ => ?_) (fun h => absurd ht h)
    refine lv_iload hx hb dL_law_650 (lv_at hl 1 rfl) ?_
    refine lv_if_ne (tgt := 667) hx hb dL_law_652 (by decide) (fun _ => ?_) (fun h => absurd h (li_n0 (by decide) hix))
    refine lv_goto (tgt := 2388) hx hb dL_law_667 (by decide) ?_
    refine W.widen (k := cells + 870) (n := slots + 3850) (by omega) (by omega) ?_
    exact kk S (mf_find M (xs (i + 1)) (xs (i + 2)) (xs (i + 3)) (xs (i + 4)) (xs (i + 5)) (xs (i + 6)) (xs (i + 7))).2 H locs ls ⟨hCP2, ⟨g, h, v', rfl, hh, hR⟩, hM⟩ hS (lv_sub hl [2, 3, 4, 5, 6] rfl)
  · have hM := hM.kept (fun a ha hlt => hk a hlt (fun z => z.2 ha))
    obtain ⟨ht, hr, hCP2⟩ := hcl.2 r S' hxn
    refine lv_istore (lv' := [(5, .int 0), (4, .int (nI i)), (3, .ref o), (2, .ref ym), (1, .ref (g 0 0)), (0, .ref b)]) hx hb dL_law_587 hl (by decide) rfl (fun ls hl => ?_)
    refine lv_aload_n hx hb dL_law_589 rfl (lv_at hl 3 rfl) ?_
    refine lv_aload_n hx hb dL_law_590 rfl (lv_at hl 5 rfl) ?_
    refine lv_iload hx hb dL_law_591 (lv_at hl 1 rfl) ?_
    refine lv_iconst (v := nI 1) hx hb dL_law_593 (by decide) ?_
    refine sc_ld hx hb hX hbl hS (show i + 1 < Ln by omega) hLn dL_law_594 dL_law_595 ?_
    refine lv_aload_n hx hb dL_law_596 rfl (lv_at hl 5 rfl) ?_
    refine lv_iload hx hb dL_law_597 (lv_at hl 1 rfl) ?_
    refine lv_iconst (v := nI 2) hx hb dL_law_599 (by decide) ?_
    refine sc_ld hx hb hX hbl hS (show i + 2 < Ln by omega) hLn dL_law_600 dL_law_601 ?_
    refine lv_aload_n hx hb dL_law_602 rfl (lv_at hl 5 rfl) ?_
    refine lv_iload hx hb dL_law_603 (lv_at hl 1 rfl) ?_
    refine lv_iconst (v := nI 3) hx hb dL_law_605 (by decide) ?_
    refine sc_ld hx hb hX hbl hS (show i + 3 < Ln by omega) hLn dL_law_606 dL_law_607 ?_
    refine lv_aload_n hx hb dL_law_608 rfl (lv_at hl 5 rfl) ?_
    refine lv_iload hx hb dL_law_609 (lv_at hl 1 rfl) ?_
    refine lv_iconst (v := nI 4) hx hb dL_law_611 (by decide) ?_
    refine sc_ld hx hb hX hbl hS (show i + 4 < Ln by omega) hLn dL_law_612 dL_law_613 ?_
    refine lv_aload_n hx hb dL_law_614 rfl (lv_at hl 5 rfl) ?_
    refine lv_iload hx hb dL_law_615 (lv_at hl 1 rfl) ?_
    refine lv_iconst (v := nI 5) hx hb dL_law_617 (by decide) ?_
    refine sc_ld hx hb hX hbl hS (show i + 5 < Ln by omega) hLn dL_law_618 dL_law_619 ?_
    refine lv_aload_n hx hb dL_law_620 rfl (lv_at hl 5 rfl) ?_
    refine lv_iload hx hb dL_law_621 (lv_at hl 1 rfl) ?_
    refine lv_bipush (v := nI 6) hx hb dL_law_623 (by decide) ?_
    refine sc_ld hx hb hX hbl hS (show i + 6 < Ln by omega) hLn dL_law_625 dL_law_626 ?_
    refine lv_aload_n hx hb dL_law_627 rfl (lv_at hl 5 rfl) ?_
    refine lv_iload hx hb dL_law_628 (lv_at hl 1 rfl) ?_
    refine lv_bipush (v := nI 7) hx hb dL_law_630 (by decide) ?_
    refine sc_ld hx hb hX hbl hS (show i + 7 < Ln by omega) hLn dL_law_632 dL_law_633 ?_
    refine mr_calli (As := [.int (xs (i + 1)), .int (xs (i + 2)), .int (xs (i + 3)), .int (xs (i + 4)), .int (xs (i + 5)), .int (xs (i + 6)), .int (xs (i + 7))]) (rest := []) ⟨hx, hb, hml, hown, hts⟩ (mt_find l E ym ad L M (xs (i + 1)) (xs (i + 2)) (xs (i + 3)) (xs (i + 4)) (xs (i + 5)) (xs (i + 6)) (xs (i + 7))) (cwV 7 hts (lw_V q1110 q1111 q1112 q41 q1113) rfl rfl rfl (by decide +kernel) ⟨Nat.le_of_ble_eq_true rfl, Nat.le_of_ble_eq_true rfl⟩) hmz hK.1 hM hL9 hS rfl hl.1 rfl (Nat.le_of_ble_eq_true rfl) dL_law_634 ⟨(show _ ≤ 1200384 by omega), (show _ ≤ 5490858 by omega)⟩ (fun H locs hM hS hz hk => ?_)
    have hR := hR.kept (fun a ha hlt => hk a hlt (fun z => ha.2 z))
    refine W.eq (g2 := F0 m 637 ls [.int (mf_find M (xs (i + 1)) (xs (i + 2)) (xs (i + 3)) (xs (i + 4)) (xs (i + 5)) (xs (i + 6)) (xs (i + 7))).1]) rfl ?_
    refine lv_istore (lv' := [(6, .int (mf_find M (xs (i + 1)) (xs (i + 2)) (xs (i + 3)) (xs (i + 4)) (xs (i + 5)) (xs (i + 6)) (xs (i + 7))).1), (5, .int 0), (4, .int (nI i)), (3, .ref o), (2, .ref ym), (1, .ref (g 0 0)), (0, .ref b)]) hx hb dL_law_637 hl (by decide) rfl (fun ls hl => ?_)
    refine lv_aload_n hx hb dL_law_639 rfl (lv_at hl 4 rfl) ?_
    refine mr_calli (As := []) (rest := []) ⟨hx, hb, hml, hown, hts⟩ (mt_thrown l E ym ad L (mf_find M (xs (i + 1)) (xs (i + 2)) (xs (i + 3)) (xs (i + 4)) (xs (i + 5)) (xs (i + 6)) (xs (i + 7))).2) (cwV 0 hts (lw_V q1067 q1068 q1069 q41 q1070) rfl rfl rfl (by decide +kernel) ⟨Nat.le_of_ble_eq_true rfl, Nat.le_of_ble_eq_true rfl⟩) trivial hK.1 hM hL9 hS rfl hl.1 rfl (Nat.le_of_ble_eq_true rfl) dL_law_640 ⟨(show _ ≤ 1200384 by omega), (show _ ≤ 5490858 by omega)⟩ (fun H locs hM hS hz hk => ?_)
    have hR := hR.kept (fun a ha hlt => hk a hlt (fun z => ha.2 z))
    refine W.eq (g2 := F0 m 643 ls [.int (mf_thrown (mf_find M (xs (i + 1)) (xs (i + 2)) (xs (i + 3)) (xs (i + 4)) (xs (i + 5)) (xs (i + 6)) (xs (i + 7))).2)]) rfl ?_
    refine lv_iload hx hb dL_law_643 (lv_at hl 1 rfl) ?_
    refine lv_icmp_eq (tgt := 650) hx hb dL_law_645 (by decide) (fun _ => ?_) (fun h => absurd ht h)
    refine lv_iload hx hb dL_law_650 (lv_at hl 1 rfl) ?_
    refine lv_if_ne (tgt := 667) hx hb dL_law_652 (by decide) (fun h => absurd rfl h) (fun _ => ?_)
    refine lv_aload_n hx hb dL_law_655 rfl (lv_at hl 3 rfl) ?_
    refine lv_iconst (v := 0) hx hb dL_law_656 (by decide) ?_
    refine xo_lald hx hb hK.1 hR dL_law_657 ?_
    refine lv_iload hx hb dL_law_658 (lv_at hl 0 rfl) ?_
    refine lv_i2l (v := (mf_find M (xs (i + 1)) (xs (i + 2)) (xs (i + 3)) (xs (i + 4)) (xs (i + 5)) (xs (i + 6)) (xs (i + 7))).1.toInt64) hx hb dL_law_660 rfl ?_
    have hvv : v' 0 = (mf_find M (xs (i + 1)) (xs (i + 2)) (xs (i + 3)) (xs (i + 4)) (xs (i + 5)) (xs (i + 6)) (xs (i + 7))).1.toInt64 := by rw [hv', hr]
    refine W.eq (g2 := F0 m 661 ls [.long ((mf_find M (xs (i + 1)) (xs (i + 2)) (xs (i + 3)) (xs (i + 4)) (xs (i + 5)) (xs (i + 6)) (xs (i + 7))).1.toInt64), .long ((mf_find M (xs (i + 1)) (xs (i + 2)) (xs (i + 3)) (xs (i + 4)) (xs (i + 5)) (xs (i + 6)) (xs (i + 7))).1.toInt64)]) (congrArg (fun z => F0 m 661 ls [.long ((mf_find M (xs (i + 1)) (xs (i + 2)) (xs (i + 3)) (xs (i + 4)) (xs (i + 5)) (xs (i + 6)) (xs (i + 7))).1.toInt64), .long z]) hvv) ?_
    refine lv_lcmpE hx hb dL_law_661 ?_
    refine lv_if_eq (tgt := 667) hx hb dL_law_662 (by decide) (fun _ => ?_) (fun h => absurd rfl h)
    refine lv_goto (tgt := 2388) hx hb dL_law_667 (by decide) ?_
    refine W.widen (k := cells + 870) (n := slots + 3850) (by omega) (by omega) ?_
    exact kk S' (mf_find M (xs (i + 1)) (xs (i + 2)) (xs (i + 3)) (xs (i + 4)) (xs (i + 5)) (xs (i + 6)) (xs (i + 7))).2 H locs ls ⟨hCP2, ⟨g', h', v', hg0, hh', hR⟩, hM⟩ hS (lv_sub hl [2, 3, 4, 5, 6] rfl)
set_option maxHeartbeats 2000000 in
set_option maxRecDepth 100000 in
theorem lc_see {CP : gs_T → gs_T → Prop} (hCPi : ∀ S M, CP S M → xi_ok S ∧ mi_ok M) (hc : ∀ S M (p1 : Int32) (p2 : Int32), CP S M → cl_P CP ["java/lang/IndexOutOfBoundsException", "java/lang/IllegalArgumentException", "java/lang/IllegalStateException"] (xp_see S p1 p2) (mf_see M p1 p2).1 (mf_see M p1 p2).2 S) {l : Launch} {p : Program} {e : Env} {s : State} {m : MethodId} {below : List Frame} {meth : Method} {c : Code} {H : Heap} {locs : List Loc} {cells slots : Nat} {Q : State → Prop} {ls : Array Slot} {b Ln i : Nat} {xs : Nat → Int32} {E : en_T} {C : ex_C} {x0 ym o : Nat} {ad : Nat → Nat} {L : List Nat} {S M : gs_T} (hE : le_E l p s m meth c b Ln xs E C ym L) (hi : i + 8 ≤ Ln) (hW : LW CP E C s x0 ym o ad L S M H) (hS : va_S (la_9 s) s.heap H locs) (hl : lv_has ls 7 [(4, .int (nI i)), (3, .ref o), (2, .ref ym), (1, .ref x0), (0, .ref b)]) (hf : cells + 870 ≤ 1200384 ∧ slots + 3850 ≤ 5490858) (kk : ∀ (S' M' : gs_T) (H' : Heap) (locs' : List Loc) (ls' : Array Slot), LW CP E C s x0 ym o ad L S' M' H' → va_S (la_9 s) s.heap H' locs' → lv_has ls' 7 [(4, .int (nI i)), (3, .ref o), (2, .ref ym), (1, .ref x0), (0, .ref b)] → W p l e room_1 s m #[.ref b] below meth c H' locs' (cells + 870) (slots + 3850) Q (F0 m 2388 ls' [])) : W p l e room_1 s m #[.ref b] below meth c H locs cells slots Q (F0 m 670 ls []) := by
  obtain ⟨hx, hb, hml, hown, hts, hX, hbl, hK, hN, hZ, hfl, hL9, hLn⟩ := hE
  obtain ⟨hCP, ⟨g, h, v, hg0, hh, hR⟩, hM⟩ := hW
  obtain ⟨hI, hmi⟩ := hCPi S M hCP
  subst hg0
  refine lv_aload_n hx hb dL_law_670 rfl (lv_at hl 3 rfl) ?_
  refine lv_aload_n hx hb dL_law_671 rfl (lv_at hl 4 rfl) ?_
  refine lv_iload hx hb dL_law_672 (lv_at hl 0 rfl) ?_
  refine lv_iconst (v := nI 1) hx hb dL_law_674 (by decide) ?_
  refine sc_ld hx hb hX hbl hS (show i + 1 < Ln by omega) hLn dL_law_675 dL_law_676 ?_
  refine lv_aload_n hx hb dL_law_677 rfl (lv_at hl 4 rfl) ?_
  refine lv_iload hx hb dL_law_678 (lv_at hl 0 rfl) ?_
  refine lv_iconst (v := nI 2) hx hb dL_law_680 (by decide) ?_
  refine sc_ld hx hb hX hbl hS (show i + 2 < Ln by omega) hLn dL_law_681 dL_law_682 ?_
  refine lv_aload_n hx hb dL_law_683 rfl (lv_at hl 1 rfl) ?_
  have hcl := hc S M (xs (i + 1)) (xs (i + 2)) hCP
  have hmz : mi_ok M := hmi
  refine ls_S (As := [.ref (g 0 0), .int (xs (i + 1)), .int (xs (i + 2)), .ref o]) (rest := []) hK hN hZ hS (fun _ h => h.1) (la_new hS.1 (mr_lt hM)) hR ⟨hI, hh⟩ (wt_see l hfl E C (la_A s L) H.size g h S o v (xs (i + 1)) (xs (i + 2))) ⟨hx, hb, hml, hown, hts⟩ (vx_cwSW 4 hts (lw_SW q579 q580 q32 q581) rfl rfl rfl (by decide +kernel) ⟨Nat.le_of_ble_eq_true rfl, Nat.le_of_ble_eq_true rfl⟩) rfl hl.1 rfl (Nat.le_of_ble_eq_true rfl) dL_law_684 ⟨(show _ ≤ 1200384 by omega), (show _ ≤ 5490858 by omega)⟩ (fun Xn ix v' H locs hxn hix hR hz hk hS => ?_) (fun r S' g' h' v' H locs hxn hg0 hh' hv' hR hz hk hS => ?_)
  · have hM := hM.kept (fun a ha hlt => hk a hlt (fun z => z.2 ha))
    obtain ⟨j, hj, ht, hCP2⟩ := hcl.1 Xn hxn
    have ej := li_ne (by decide) hix hj
    rw [← ej] at ht
    refine lv_istore (lv' := [(5, .int (nI (ix + 1))), (4, .int (nI i)), (3, .ref o), (2, .ref ym), (1, .ref (g 0 0)), (0, .ref b)]) hx hb dL_law_687 hl (by decide) rfl (fun ls hl => ?_)
    refine lv_aload_n hx hb dL_law_689 rfl (lv_at hl 3 rfl) ?_
    refine lv_aload_n hx hb dL_law_690 rfl (lv_at hl 5 rfl) ?_
    refine lv_iload hx hb dL_law_691 (lv_at hl 1 rfl) ?_
    refine lv_iconst (v := nI 1) hx hb dL_law_693 (by decide) ?_
    refine sc_ld hx hb hX hbl hS (show i + 1 < Ln by omega) hLn dL_law_694 dL_law_695 ?_
    refine lv_aload_n hx hb dL_law_696 rfl (lv_at hl 5 rfl) ?_
    refine lv_iload hx hb dL_law_697 (lv_at hl 1 rfl) ?_
    refine lv_iconst (v := nI 2) hx hb dL_law_699 (by decide) ?_
    refine sc_ld hx hb hX hbl hS (show i + 2 < Ln by omega) hLn dL_law_700 dL_law_701 ?_
    refine mr_calli (As := [.int (xs (i + 1)), .int (xs (i + 2))]) (rest := []) ⟨hx, hb, hml, hown, hts⟩ (mt_see l E ym ad L M (xs (i + 1)) (xs (i + 2))) (cwV 2 hts (lw_V q1125 q1126 q1127 q41 q1128) rfl rfl rfl (by decide +kernel) ⟨Nat.le_of_ble_eq_true rfl, Nat.le_of_ble_eq_true rfl⟩) hmz hK.1 hM hL9 hS rfl hl.1 rfl (Nat.le_of_ble_eq_true rfl) dL_law_702 ⟨(show _ ≤ 1200384 by omega), (show _ ≤ 5490858 by omega)⟩ (fun H locs hM hS hz hk => ?_)
    have hR := hR.kept (fun a ha hlt => hk a hlt (fun z => ha.2 z))
    refine W.eq (g2 := F0 m 705 ls [.int (mf_see M (xs (i + 1)) (xs (i + 2))).1]) rfl ?_
    refine lv_istore (lv' := [(6, .int (mf_see M (xs (i + 1)) (xs (i + 2))).1), (5, .int (nI (ix + 1))), (4, .int (nI i)), (3, .ref o), (2, .ref ym), (1, .ref (g 0 0)), (0, .ref b)]) hx hb dL_law_705 hl (by decide) rfl (fun ls hl => ?_)
    refine lv_aload_n hx hb dL_law_707 rfl (lv_at hl 4 rfl) ?_
    refine mr_calli (As := []) (rest := []) ⟨hx, hb, hml, hown, hts⟩ (mt_thrown l E ym ad L (mf_see M (xs (i + 1)) (xs (i + 2))).2) (cwV 0 hts (lw_V q1067 q1068 q1069 q41 q1070) rfl rfl rfl (by decide +kernel) ⟨Nat.le_of_ble_eq_true rfl, Nat.le_of_ble_eq_true rfl⟩) trivial hK.1 hM hL9 hS rfl hl.1 rfl (Nat.le_of_ble_eq_true rfl) dL_law_708 ⟨(show _ ≤ 1200384 by omega), (show _ ≤ 5490858 by omega)⟩ (fun H locs hM hS hz hk => ?_)
    have hR := hR.kept (fun a ha hlt => hk a hlt (fun z => ha.2 z))
    refine W.eq (g2 := F0 m 711 ls [.int (mf_thrown (mf_see M (xs (i + 1)) (xs (i + 2))).2)]) rfl ?_
    refine lv_iload hx hb dL_law_711 (lv_at hl 1 rfl) ?_
    refine lv_icmp_eq (tgt := 718) hx hb dL_law_713 (by decide) (fun _ => ?_) (fun h => absurd ht h)
    refine lv_iload hx hb dL_law_718 (lv_at hl 1 rfl) ?_
    refine lv_if_ne (tgt := 735) hx hb dL_law_720 (by decide) (fun _ => ?_) (fun h => absurd h (li_n0 (by decide) hix))
    refine lv_goto (tgt := 2388) hx hb dL_law_735 (by decide) ?_
    refine W.widen (k := cells + 870) (n := slots + 3850) (by omega) (by omega) ?_
    exact kk S (mf_see M (xs (i + 1)) (xs (i + 2))).2 H locs ls ⟨hCP2, ⟨g, h, v', rfl, hh, hR⟩, hM⟩ hS (lv_sub hl [2, 3, 4, 5, 6] rfl)
  · have hM := hM.kept (fun a ha hlt => hk a hlt (fun z => z.2 ha))
    obtain ⟨ht, hr, hCP2⟩ := hcl.2 r S' hxn
    refine lv_istore (lv' := [(5, .int 0), (4, .int (nI i)), (3, .ref o), (2, .ref ym), (1, .ref (g 0 0)), (0, .ref b)]) hx hb dL_law_687 hl (by decide) rfl (fun ls hl => ?_)
    refine lv_aload_n hx hb dL_law_689 rfl (lv_at hl 3 rfl) ?_
    refine lv_aload_n hx hb dL_law_690 rfl (lv_at hl 5 rfl) ?_
    refine lv_iload hx hb dL_law_691 (lv_at hl 1 rfl) ?_
    refine lv_iconst (v := nI 1) hx hb dL_law_693 (by decide) ?_
    refine sc_ld hx hb hX hbl hS (show i + 1 < Ln by omega) hLn dL_law_694 dL_law_695 ?_
    refine lv_aload_n hx hb dL_law_696 rfl (lv_at hl 5 rfl) ?_
    refine lv_iload hx hb dL_law_697 (lv_at hl 1 rfl) ?_
    refine lv_iconst (v := nI 2) hx hb dL_law_699 (by decide) ?_
    refine sc_ld hx hb hX hbl hS (show i + 2 < Ln by omega) hLn dL_law_700 dL_law_701 ?_
    refine mr_calli (As := [.int (xs (i + 1)), .int (xs (i + 2))]) (rest := []) ⟨hx, hb, hml, hown, hts⟩ (mt_see l E ym ad L M (xs (i + 1)) (xs (i + 2))) (cwV 2 hts (lw_V q1125 q1126 q1127 q41 q1128) rfl rfl rfl (by decide +kernel) ⟨Nat.le_of_ble_eq_true rfl, Nat.le_of_ble_eq_true rfl⟩) hmz hK.1 hM hL9 hS rfl hl.1 rfl (Nat.le_of_ble_eq_true rfl) dL_law_702 ⟨(show _ ≤ 1200384 by omega), (show _ ≤ 5490858 by omega)⟩ (fun H locs hM hS hz hk => ?_)
    have hR := hR.kept (fun a ha hlt => hk a hlt (fun z => ha.2 z))
    refine W.eq (g2 := F0 m 705 ls [.int (mf_see M (xs (i + 1)) (xs (i + 2))).1]) rfl ?_
    refine lv_istore (lv' := [(6, .int (mf_see M (xs (i + 1)) (xs (i + 2))).1), (5, .int 0), (4, .int (nI i)), (3, .ref o), (2, .ref ym), (1, .ref (g 0 0)), (0, .ref b)]) hx hb dL_law_705 hl (by decide) rfl (fun ls hl => ?_)
    refine lv_aload_n hx hb dL_law_707 rfl (lv_at hl 4 rfl) ?_
    refine mr_calli (As := []) (rest := []) ⟨hx, hb, hml, hown, hts⟩ (mt_thrown l E ym ad L (mf_see M (xs (i + 1)) (xs (i + 2))).2) (cwV 0 hts (lw_V q1067 q1068 q1069 q41 q1070) rfl rfl rfl (by decide +kernel) ⟨Nat.le_of_ble_eq_true rfl, Nat.le_of_ble_eq_true rfl⟩) trivial hK.1 hM hL9 hS rfl hl.1 rfl (Nat.le_of_ble_eq_true rfl) dL_law_708 ⟨(show _ ≤ 1200384 by omega), (show _ ≤ 5490858 by omega)⟩ (fun H locs hM hS hz hk => ?_)
    have hR := hR.kept (fun a ha hlt => hk a hlt (fun z => ha.2 z))
    refine W.eq (g2 := F0 m 711 ls [.int (mf_thrown (mf_see M (xs (i + 1)) (xs (i + 2))).2)]) rfl ?_
    refine lv_iload hx hb dL_law_711 (lv_at hl 1 rfl) ?_
    refine lv_icmp_eq (tgt := 718) hx hb dL_law_713 (by decide) (fun _ => ?_) (fun h => absurd ht h)
    refine lv_iload hx hb dL_law_718 (lv_at hl 1 rfl) ?_
    refine lv_if_ne (tgt := 735) hx hb dL_law_720 (by decide) (fun h => absurd rfl h) (fun _ => ?_)
    refine lv_aload_n hx hb dL_law_723 rfl (lv_at hl 3 rfl) ?_
    refine lv_iconst (v := 0) hx hb dL_law_724 (by decide) ?_
    refine xo_lald hx hb hK.1 hR dL_law_725 ?_
    refine lv_iload hx hb dL_law_726 (lv_at hl 0 rfl) ?_
    refine lv_i2l (v := (mf_see M (xs (i + 1)) (xs (i + 2))).1.toInt64) hx hb dL_law_728 rfl ?_
    have hvv : v' 0 = (mf_see M (xs (i + 1)) (xs (i + 2))).1.toInt64 := by rw [hv', hr]
    refine W.eq (g2 := F0 m 729 ls [.long ((mf_see M (xs (i + 1)) (xs (i + 2))).1.toInt64), .long ((mf_see M (xs (i + 1)) (xs (i + 2))).1.toInt64)]) (congrArg (fun z => F0 m 729 ls [.long ((mf_see M (xs (i + 1)) (xs (i + 2))).1.toInt64), .long z]) hvv) ?_
    refine lv_lcmpE hx hb dL_law_729 ?_
    refine lv_if_eq (tgt := 735) hx hb dL_law_730 (by decide) (fun _ => ?_) (fun h => absurd rfl h)
    refine lv_goto (tgt := 2388) hx hb dL_law_735 (by decide) ?_
    refine W.widen (k := cells + 870) (n := slots + 3850) (by omega) (by omega) ?_
    exact kk S' (mf_see M (xs (i + 1)) (xs (i + 2))).2 H locs ls ⟨hCP2, ⟨g', h', v', hg0, hh', hR⟩, hM⟩ hS (lv_sub hl [2, 3, 4, 5, 6] rfl)
set_option maxHeartbeats 2000000 in
set_option maxRecDepth 100000 in
theorem lc_send {CP : gs_T → gs_T → Prop} (hCPi : ∀ S M, CP S M → xi_ok S ∧ mi_ok M) (hc : ∀ S M (p1 : Int32) (p2 : Int32), CP S M → cl_P CP ["java/lang/IndexOutOfBoundsException", "java/lang/IllegalStateException"] (xp_send S p1 p2) (mf_send M p1 p2).1 (mf_send M p1 p2).2 S) {l : Launch} {p : Program} {e : Env} {s : State} {m : MethodId} {below : List Frame} {meth : Method} {c : Code} {H : Heap} {locs : List Loc} {cells slots : Nat} {Q : State → Prop} {ls : Array Slot} {b Ln i : Nat} {xs : Nat → Int32} {E : en_T} {C : ex_C} {x0 ym o : Nat} {ad : Nat → Nat} {L : List Nat} {S M : gs_T} (hE : le_E l p s m meth c b Ln xs E C ym L) (hi : i + 8 ≤ Ln) (hW : LW CP E C s x0 ym o ad L S M H) (hS : va_S (la_9 s) s.heap H locs) (hl : lv_has ls 7 [(4, .int (nI i)), (3, .ref o), (2, .ref ym), (1, .ref x0), (0, .ref b)]) (hf : cells + 870 ≤ 1200384 ∧ slots + 3850 ≤ 5490858) (kk : ∀ (S' M' : gs_T) (H' : Heap) (locs' : List Loc) (ls' : Array Slot), LW CP E C s x0 ym o ad L S' M' H' → va_S (la_9 s) s.heap H' locs' → lv_has ls' 7 [(4, .int (nI i)), (3, .ref o), (2, .ref ym), (1, .ref x0), (0, .ref b)] → W p l e room_1 s m #[.ref b] below meth c H' locs' (cells + 870) (slots + 3850) Q (F0 m 2388 ls' [])) : W p l e room_1 s m #[.ref b] below meth c H locs cells slots Q (F0 m 738 ls []) := by
  obtain ⟨hx, hb, hml, hown, hts, hX, hbl, hK, hN, hZ, hfl, hL9, hLn⟩ := hE
  obtain ⟨hCP, ⟨g, h, v, hg0, hh, hR⟩, hM⟩ := hW
  obtain ⟨hI, hmi⟩ := hCPi S M hCP
  subst hg0
  refine lv_aload_n hx hb dL_law_738 rfl (lv_at hl 3 rfl) ?_
  refine lv_aload_n hx hb dL_law_739 rfl (lv_at hl 4 rfl) ?_
  refine lv_iload hx hb dL_law_740 (lv_at hl 0 rfl) ?_
  refine lv_iconst (v := nI 1) hx hb dL_law_742 (by decide) ?_
  refine sc_ld hx hb hX hbl hS (show i + 1 < Ln by omega) hLn dL_law_743 dL_law_744 ?_
  refine lv_aload_n hx hb dL_law_745 rfl (lv_at hl 4 rfl) ?_
  refine lv_iload hx hb dL_law_746 (lv_at hl 0 rfl) ?_
  refine lv_iconst (v := nI 2) hx hb dL_law_748 (by decide) ?_
  refine sc_ld hx hb hX hbl hS (show i + 2 < Ln by omega) hLn dL_law_749 dL_law_750 ?_
  refine lv_aload_n hx hb dL_law_751 rfl (lv_at hl 1 rfl) ?_
  have hcl := hc S M (xs (i + 1)) (xs (i + 2)) hCP
  have hmz : mi_ok M := hmi
  refine ls_S (As := [.ref (g 0 0), .int (xs (i + 1)), .int (xs (i + 2)), .ref o]) (rest := []) hK hN hZ hS (fun _ h => h.1) (la_new hS.1 (mr_lt hM)) hR ⟨hI, hh⟩ (wt_send l hfl E C (la_A s L) H.size g h S o v (xs (i + 1)) (xs (i + 2))) ⟨hx, hb, hml, hown, hts⟩ (vx_cwSW 4 hts (lw_SW q596 q597 q32 q598) rfl rfl rfl (by decide +kernel) ⟨Nat.le_of_ble_eq_true rfl, Nat.le_of_ble_eq_true rfl⟩) rfl hl.1 rfl (Nat.le_of_ble_eq_true rfl) dL_law_752 ⟨(show _ ≤ 1200384 by omega), (show _ ≤ 5490858 by omega)⟩ (fun Xn ix v' H locs hxn hix hR hz hk hS => ?_) (fun r S' g' h' v' H locs hxn hg0 hh' hv' hR hz hk hS => ?_)
  · have hM := hM.kept (fun a ha hlt => hk a hlt (fun z => z.2 ha))
    obtain ⟨j, hj, ht, hCP2⟩ := hcl.1 Xn hxn
    have ej := li_ne (by decide) hix hj
    rw [← ej] at ht
    refine lv_istore (lv' := [(5, .int (nI (ix + 1))), (4, .int (nI i)), (3, .ref o), (2, .ref ym), (1, .ref (g 0 0)), (0, .ref b)]) hx hb dL_law_755 hl (by decide) rfl (fun ls hl => ?_)
    refine lv_aload_n hx hb dL_law_757 rfl (lv_at hl 3 rfl) ?_
    refine lv_aload_n hx hb dL_law_758 rfl (lv_at hl 5 rfl) ?_
    refine lv_iload hx hb dL_law_759 (lv_at hl 1 rfl) ?_
    refine lv_iconst (v := nI 1) hx hb dL_law_761 (by decide) ?_
    refine sc_ld hx hb hX hbl hS (show i + 1 < Ln by omega) hLn dL_law_762 dL_law_763 ?_
    refine lv_aload_n hx hb dL_law_764 rfl (lv_at hl 5 rfl) ?_
    refine lv_iload hx hb dL_law_765 (lv_at hl 1 rfl) ?_
    refine lv_iconst (v := nI 2) hx hb dL_law_767 (by decide) ?_
    refine sc_ld hx hb hX hbl hS (show i + 2 < Ln by omega) hLn dL_law_768 dL_law_769 ?_
    refine mr_calli (As := [.int (xs (i + 1)), .int (xs (i + 2))]) (rest := []) ⟨hx, hb, hml, hown, hts⟩ (mt_send l E ym ad L M (xs (i + 1)) (xs (i + 2))) (cwV 2 hts (lw_V q1133 q1134 q1135 q41 q1136) rfl rfl rfl (by decide +kernel) ⟨Nat.le_of_ble_eq_true rfl, Nat.le_of_ble_eq_true rfl⟩) hmz hK.1 hM hL9 hS rfl hl.1 rfl (Nat.le_of_ble_eq_true rfl) dL_law_770 ⟨(show _ ≤ 1200384 by omega), (show _ ≤ 5490858 by omega)⟩ (fun H locs hM hS hz hk => ?_)
    have hR := hR.kept (fun a ha hlt => hk a hlt (fun z => ha.2 z))
    refine W.eq (g2 := F0 m 773 ls [.int (mf_send M (xs (i + 1)) (xs (i + 2))).1]) rfl ?_
    refine lv_istore (lv' := [(6, .int (mf_send M (xs (i + 1)) (xs (i + 2))).1), (5, .int (nI (ix + 1))), (4, .int (nI i)), (3, .ref o), (2, .ref ym), (1, .ref (g 0 0)), (0, .ref b)]) hx hb dL_law_773 hl (by decide) rfl (fun ls hl => ?_)
    refine lv_aload_n hx hb dL_law_775 rfl (lv_at hl 4 rfl) ?_
    refine mr_calli (As := []) (rest := []) ⟨hx, hb, hml, hown, hts⟩ (mt_thrown l E ym ad L (mf_send M (xs (i + 1)) (xs (i + 2))).2) (cwV 0 hts (lw_V q1067 q1068 q1069 q41 q1070) rfl rfl rfl (by decide +kernel) ⟨Nat.le_of_ble_eq_true rfl, Nat.le_of_ble_eq_true rfl⟩) trivial hK.1 hM hL9 hS rfl hl.1 rfl (Nat.le_of_ble_eq_true rfl) dL_law_776 ⟨(show _ ≤ 1200384 by omega), (show _ ≤ 5490858 by omega)⟩ (fun H locs hM hS hz hk => ?_)
    have hR := hR.kept (fun a ha hlt => hk a hlt (fun z => ha.2 z))
    refine W.eq (g2 := F0 m 779 ls [.int (mf_thrown (mf_send M (xs (i + 1)) (xs (i + 2))).2)]) rfl ?_
    refine lv_iload hx hb dL_law_779 (lv_at hl 1 rfl) ?_
    refine lv_icmp_eq (tgt := 786) hx hb dL_law_781 (by decide) (fun _ => ?_) (fun h => absurd ht h)
    refine lv_iload hx hb dL_law_786 (lv_at hl 1 rfl) ?_
    refine lv_if_ne (tgt := 803) hx hb dL_law_788 (by decide) (fun _ => ?_) (fun h => absurd h (li_n0 (by decide) hix))
    refine lv_goto (tgt := 2388) hx hb dL_law_803 (by decide) ?_
    refine W.widen (k := cells + 870) (n := slots + 3850) (by omega) (by omega) ?_
    exact kk S (mf_send M (xs (i + 1)) (xs (i + 2))).2 H locs ls ⟨hCP2, ⟨g, h, v', rfl, hh, hR⟩, hM⟩ hS (lv_sub hl [2, 3, 4, 5, 6] rfl)
  · have hM := hM.kept (fun a ha hlt => hk a hlt (fun z => z.2 ha))
    obtain ⟨ht, hr, hCP2⟩ := hcl.2 r S' hxn
    refine lv_istore (lv' := [(5, .int 0), (4, .int (nI i)), (3, .ref o), (2, .ref ym), (1, .ref (g 0 0)), (0, .ref b)]) hx hb dL_law_755 hl (by decide) rfl (fun ls hl => ?_)
    refine lv_aload_n hx hb dL_law_757 rfl (lv_at hl 3 rfl) ?_
    refine lv_aload_n hx hb dL_law_758 rfl (lv_at hl 5 rfl) ?_
    refine lv_iload hx hb dL_law_759 (lv_at hl 1 rfl) ?_
    refine lv_iconst (v := nI 1) hx hb dL_law_761 (by decide) ?_
    refine sc_ld hx hb hX hbl hS (show i + 1 < Ln by omega) hLn dL_law_762 dL_law_763 ?_
    refine lv_aload_n hx hb dL_law_764 rfl (lv_at hl 5 rfl) ?_
    refine lv_iload hx hb dL_law_765 (lv_at hl 1 rfl) ?_
    refine lv_iconst (v := nI 2) hx hb dL_law_767 (by decide) ?_
    refine sc_ld hx hb hX hbl hS (show i + 2 < Ln by omega) hLn dL_law_768 dL_law_769 ?_
    refine mr_calli (As := [.int (xs (i + 1)), .int (xs (i + 2))]) (rest := []) ⟨hx, hb, hml, hown, hts⟩ (mt_send l E ym ad L M (xs (i + 1)) (xs (i + 2))) (cwV 2 hts (lw_V q1133 q1134 q1135 q41 q1136) rfl rfl rfl (by decide +kernel) ⟨Nat.le_of_ble_eq_true rfl, Nat.le_of_ble_eq_true rfl⟩) hmz hK.1 hM hL9 hS rfl hl.1 rfl (Nat.le_of_ble_eq_true rfl) dL_law_770 ⟨(show _ ≤ 1200384 by omega), (show _ ≤ 5490858 by omega)⟩ (fun H locs hM hS hz hk => ?_)
    have hR := hR.kept (fun a ha hlt => hk a hlt (fun z => ha.2 z))
    refine W.eq (g2 := F0 m 773 ls [.int (mf_send M (xs (i + 1)) (xs (i + 2))).1]) rfl ?_
    refine lv_istore (lv' := [(6, .int (mf_send M (xs (i + 1)) (xs (i + 2))).1), (5, .int 0), (4, .int (nI i)), (3, .ref o), (2, .ref ym), (1, .ref (g 0 0)), (0, .ref b)]) hx hb dL_law_773 hl (by decide) rfl (fun ls hl => ?_)
    refine lv_aload_n hx hb dL_law_775 rfl (lv_at hl 4 rfl) ?_
    refine mr_calli (As := []) (rest := []) ⟨hx, hb, hml, hown, hts⟩ (mt_thrown l E ym ad L (mf_send M (xs (i + 1)) (xs (i + 2))).2) (cwV 0 hts (lw_V q1067 q1068 q1069 q41 q1070) rfl rfl rfl (by decide +kernel) ⟨Nat.le_of_ble_eq_true rfl, Nat.le_of_ble_eq_true rfl⟩) trivial hK.1 hM hL9 hS rfl hl.1 rfl (Nat.le_of_ble_eq_true rfl) dL_law_776 ⟨(show _ ≤ 1200384 by omega), (show _ ≤ 5490858 by omega)⟩ (fun H locs hM hS hz hk => ?_)
    have hR := hR.kept (fun a ha hlt => hk a hlt (fun z => ha.2 z))
    refine W.eq (g2 := F0 m 779 ls [.int (mf_thrown (mf_send M (xs (i + 1)) (xs (i + 2))).2)]) rfl ?_
    refine lv_iload hx hb dL_law_779 (lv_at hl 1 rfl) ?_
    refine lv_icmp_eq (tgt := 786) hx hb dL_law_781 (by decide) (fun _ => ?_) (fun h => absurd ht h)
    refine lv_iload hx hb dL_law_786 (lv_at hl 1 rfl) ?_
    refine lv_if_ne (tgt := 803) hx hb dL_law_788 (by decide) (fun h => absurd rfl h) (fun _ => ?_)
    refine lv_aload_n hx hb dL_law_791 rfl (lv_at hl 3 rfl) ?_
    refine lv_iconst (v := 0) hx hb dL_law_792 (by decide) ?_
    refine xo_lald hx hb hK.1 hR dL_law_793 ?_
    refine lv_iload hx hb dL_law_794 (lv_at hl 0 rfl) ?_
    refine lv_i2l (v := (mf_send M (xs (i + 1)) (xs (i + 2))).1.toInt64) hx hb dL_law_796 rfl ?_
    have hvv : v' 0 = (mf_send M (xs (i + 1)) (xs (i + 2))).1.toInt64 := by rw [hv', hr]
    refine W.eq (g2 := F0 m 797 ls [.long ((mf_send M (xs (i + 1)) (xs (i + 2))).1.toInt64), .long ((mf_send M (xs (i + 1)) (xs (i + 2))).1.toInt64)]) (congrArg (fun z => F0 m 797 ls [.long ((mf_send M (xs (i + 1)) (xs (i + 2))).1.toInt64), .long z]) hvv) ?_
    refine lv_lcmpE hx hb dL_law_797 ?_
    refine lv_if_eq (tgt := 803) hx hb dL_law_798 (by decide) (fun _ => ?_) (fun h => absurd rfl h)
    refine lv_goto (tgt := 2388) hx hb dL_law_803 (by decide) ?_
    refine W.widen (k := cells + 870) (n := slots + 3850) (by omega) (by omega) ?_
    exact kk S' (mf_send M (xs (i + 1)) (xs (i + 2))).2 H locs ls ⟨hCP2, ⟨g', h', v', hg0, hh', hR⟩, hM⟩ hS (lv_sub hl [2, 3, 4, 5, 6] rfl)
set_option maxHeartbeats 2000000 in
set_option maxRecDepth 100000 in
theorem lc_lose {CP : gs_T → gs_T → Prop} (hCPi : ∀ S M, CP S M → xi_ok S ∧ mi_ok M) (hc : ∀ S M (p1 : Int32), CP S M → cl_P CP ["java/lang/IndexOutOfBoundsException"] (xp_lose S p1) (mf_lose M p1).1 (mf_lose M p1).2 S) {l : Launch} {p : Program} {e : Env} {s : State} {m : MethodId} {below : List Frame} {meth : Method} {c : Code} {H : Heap} {locs : List Loc} {cells slots : Nat} {Q : State → Prop} {ls : Array Slot} {b Ln i : Nat} {xs : Nat → Int32} {E : en_T} {C : ex_C} {x0 ym o : Nat} {ad : Nat → Nat} {L : List Nat} {S M : gs_T} (hE : le_E l p s m meth c b Ln xs E C ym L) (hi : i + 8 ≤ Ln) (hW : LW CP E C s x0 ym o ad L S M H) (hS : va_S (la_9 s) s.heap H locs) (hl : lv_has ls 7 [(4, .int (nI i)), (3, .ref o), (2, .ref ym), (1, .ref x0), (0, .ref b)]) (hf : cells + 870 ≤ 1200384 ∧ slots + 3850 ≤ 5490858) (kk : ∀ (S' M' : gs_T) (H' : Heap) (locs' : List Loc) (ls' : Array Slot), LW CP E C s x0 ym o ad L S' M' H' → va_S (la_9 s) s.heap H' locs' → lv_has ls' 7 [(4, .int (nI i)), (3, .ref o), (2, .ref ym), (1, .ref x0), (0, .ref b)] → W p l e room_1 s m #[.ref b] below meth c H' locs' (cells + 870) (slots + 3850) Q (F0 m 2388 ls' [])) : W p l e room_1 s m #[.ref b] below meth c H locs cells slots Q (F0 m 806 ls []) := by
  obtain ⟨hx, hb, hml, hown, hts, hX, hbl, hK, hN, hZ, hfl, hL9, hLn⟩ := hE
  obtain ⟨hCP, ⟨g, h, v, hg0, hh, hR⟩, hM⟩ := hW
  obtain ⟨hI, hmi⟩ := hCPi S M hCP
  subst hg0
  refine lv_aload_n hx hb dL_law_806 rfl (lv_at hl 3 rfl) ?_
  refine lv_aload_n hx hb dL_law_807 rfl (lv_at hl 4 rfl) ?_
  refine lv_iload hx hb dL_law_808 (lv_at hl 0 rfl) ?_
  refine lv_iconst (v := nI 1) hx hb dL_law_810 (by decide) ?_
  refine sc_ld hx hb hX hbl hS (show i + 1 < Ln by omega) hLn dL_law_811 dL_law_812 ?_
  refine lv_aload_n hx hb dL_law_813 rfl (lv_at hl 1 rfl) ?_
  have hcl := hc S M (xs (i + 1)) hCP
  have hmz : mi_ok M := hmi
  refine ls_S (As := [.ref (g 0 0), .int (xs (i + 1)), .ref o]) (rest := []) hK hN hZ hS (fun _ h => h.1) (la_new hS.1 (mr_lt hM)) hR ⟨hI, hh⟩ (wt_lose l hfl E C (la_A s L) H.size g h S o v (xs (i + 1))) ⟨hx, hb, hml, hown, hts⟩ (vx_cwSW 3 hts (lw_SW q603 q604 q32 q605) rfl rfl rfl (by decide +kernel) ⟨Nat.le_of_ble_eq_true rfl, Nat.le_of_ble_eq_true rfl⟩) rfl hl.1 rfl (Nat.le_of_ble_eq_true rfl) dL_law_814 ⟨(show _ ≤ 1200384 by omega), (show _ ≤ 5490858 by omega)⟩ (fun Xn ix v' H locs hxn hix hR hz hk hS => ?_) (fun r S' g' h' v' H locs hxn hg0 hh' hv' hR hz hk hS => ?_)
  · have hM := hM.kept (fun a ha hlt => hk a hlt (fun z => z.2 ha))
    obtain ⟨j, hj, ht, hCP2⟩ := hcl.1 Xn hxn
    have ej := li_ne (by decide) hix hj
    rw [← ej] at ht
    refine lv_istore (lv' := [(5, .int (nI (ix + 1))), (4, .int (nI i)), (3, .ref o), (2, .ref ym), (1, .ref (g 0 0)), (0, .ref b)]) hx hb dL_law_817 hl (by decide) rfl (fun ls hl => ?_)
    refine lv_aload_n hx hb dL_law_819 rfl (lv_at hl 3 rfl) ?_
    refine lv_aload_n hx hb dL_law_820 rfl (lv_at hl 5 rfl) ?_
    refine lv_iload hx hb dL_law_821 (lv_at hl 1 rfl) ?_
    refine lv_iconst (v := nI 1) hx hb dL_law_823 (by decide) ?_
    refine sc_ld hx hb hX hbl hS (show i + 1 < Ln by omega) hLn dL_law_824 dL_law_825 ?_
    refine mr_calli (As := [.int (xs (i + 1))]) (rest := []) ⟨hx, hb, hml, hown, hts⟩ (mt_lose l E ym ad L M (xs (i + 1))) (cwV 1 hts (lw_V q1137 q1138 q1139 q41 q1140) rfl rfl rfl (by decide +kernel) ⟨Nat.le_of_ble_eq_true rfl, Nat.le_of_ble_eq_true rfl⟩) hmz hK.1 hM hL9 hS rfl hl.1 rfl (Nat.le_of_ble_eq_true rfl) dL_law_826 ⟨(show _ ≤ 1200384 by omega), (show _ ≤ 5490858 by omega)⟩ (fun H locs hM hS hz hk => ?_)
    have hR := hR.kept (fun a ha hlt => hk a hlt (fun z => ha.2 z))
    refine W.eq (g2 := F0 m 829 ls [.int (mf_lose M (xs (i + 1))).1]) rfl ?_
    refine lv_istore (lv' := [(6, .int (mf_lose M (xs (i + 1))).1), (5, .int (nI (ix + 1))), (4, .int (nI i)), (3, .ref o), (2, .ref ym), (1, .ref (g 0 0)), (0, .ref b)]) hx hb dL_law_829 hl (by decide) rfl (fun ls hl => ?_)
    refine lv_aload_n hx hb dL_law_831 rfl (lv_at hl 4 rfl) ?_
    refine mr_calli (As := []) (rest := []) ⟨hx, hb, hml, hown, hts⟩ (mt_thrown l E ym ad L (mf_lose M (xs (i + 1))).2) (cwV 0 hts (lw_V q1067 q1068 q1069 q41 q1070) rfl rfl rfl (by decide +kernel) ⟨Nat.le_of_ble_eq_true rfl, Nat.le_of_ble_eq_true rfl⟩) trivial hK.1 hM hL9 hS rfl hl.1 rfl (Nat.le_of_ble_eq_true rfl) dL_law_832 ⟨(show _ ≤ 1200384 by omega), (show _ ≤ 5490858 by omega)⟩ (fun H locs hM hS hz hk => ?_)
    have hR := hR.kept (fun a ha hlt => hk a hlt (fun z => ha.2 z))
    refine W.eq (g2 := F0 m 835 ls [.int (mf_thrown (mf_lose M (xs (i + 1))).2)]) rfl ?_
    refine lv_iload hx hb dL_law_835 (lv_at hl 1 rfl) ?_
    refine lv_icmp_eq (tgt := 842) hx hb dL_law_837 (by decide) (fun _ => ?_) (fun h => absurd ht h)
    refine lv_iload hx hb dL_law_842 (lv_at hl 1 rfl) ?_
    refine lv_if_ne (tgt := 859) hx hb dL_law_844 (by decide) (fun _ => ?_) (fun h => absurd h (li_n0 (by decide) hix))
    refine lv_goto (tgt := 2388) hx hb dL_law_859 (by decide) ?_
    refine W.widen (k := cells + 870) (n := slots + 3850) (by omega) (by omega) ?_
    exact kk S (mf_lose M (xs (i + 1))).2 H locs ls ⟨hCP2, ⟨g, h, v', rfl, hh, hR⟩, hM⟩ hS (lv_sub hl [2, 3, 4, 5, 6] rfl)
  · have hM := hM.kept (fun a ha hlt => hk a hlt (fun z => z.2 ha))
    obtain ⟨ht, hr, hCP2⟩ := hcl.2 r S' hxn
    refine lv_istore (lv' := [(5, .int 0), (4, .int (nI i)), (3, .ref o), (2, .ref ym), (1, .ref (g 0 0)), (0, .ref b)]) hx hb dL_law_817 hl (by decide) rfl (fun ls hl => ?_)
    refine lv_aload_n hx hb dL_law_819 rfl (lv_at hl 3 rfl) ?_
    refine lv_aload_n hx hb dL_law_820 rfl (lv_at hl 5 rfl) ?_
    refine lv_iload hx hb dL_law_821 (lv_at hl 1 rfl) ?_
    refine lv_iconst (v := nI 1) hx hb dL_law_823 (by decide) ?_
    refine sc_ld hx hb hX hbl hS (show i + 1 < Ln by omega) hLn dL_law_824 dL_law_825 ?_
    refine mr_calli (As := [.int (xs (i + 1))]) (rest := []) ⟨hx, hb, hml, hown, hts⟩ (mt_lose l E ym ad L M (xs (i + 1))) (cwV 1 hts (lw_V q1137 q1138 q1139 q41 q1140) rfl rfl rfl (by decide +kernel) ⟨Nat.le_of_ble_eq_true rfl, Nat.le_of_ble_eq_true rfl⟩) hmz hK.1 hM hL9 hS rfl hl.1 rfl (Nat.le_of_ble_eq_true rfl) dL_law_826 ⟨(show _ ≤ 1200384 by omega), (show _ ≤ 5490858 by omega)⟩ (fun H locs hM hS hz hk => ?_)
    have hR := hR.kept (fun a ha hlt => hk a hlt (fun z => ha.2 z))
    refine W.eq (g2 := F0 m 829 ls [.int (mf_lose M (xs (i + 1))).1]) rfl ?_
    refine lv_istore (lv' := [(6, .int (mf_lose M (xs (i + 1))).1), (5, .int 0), (4, .int (nI i)), (3, .ref o), (2, .ref ym), (1, .ref (g 0 0)), (0, .ref b)]) hx hb dL_law_829 hl (by decide) rfl (fun ls hl => ?_)
    refine lv_aload_n hx hb dL_law_831 rfl (lv_at hl 4 rfl) ?_
    refine mr_calli (As := []) (rest := []) ⟨hx, hb, hml, hown, hts⟩ (mt_thrown l E ym ad L (mf_lose M (xs (i + 1))).2) (cwV 0 hts (lw_V q1067 q1068 q1069 q41 q1070) rfl rfl rfl (by decide +kernel) ⟨Nat.le_of_ble_eq_true rfl, Nat.le_of_ble_eq_true rfl⟩) trivial hK.1 hM hL9 hS rfl hl.1 rfl (Nat.le_of_ble_eq_true rfl) dL_law_832 ⟨(show _ ≤ 1200384 by omega), (show _ ≤ 5490858 by omega)⟩ (fun H locs hM hS hz hk => ?_)
    have hR := hR.kept (fun a ha hlt => hk a hlt (fun z => ha.2 z))
    refine W.eq (g2 := F0 m 835 ls [.int (mf_thrown (mf_lose M (xs (i + 1))).2)]) rfl ?_
    refine lv_iload hx hb dL_law_835 (lv_at hl 1 rfl) ?_
    refine lv_icmp_eq (tgt := 842) hx hb dL_law_837 (by decide) (fun _ => ?_) (fun h => absurd ht h)
    refine lv_iload hx hb dL_law_842 (lv_at hl 1 rfl) ?_
    refine lv_if_ne (tgt := 859) hx hb dL_law_844 (by decide) (fun h => absurd rfl h) (fun _ => ?_)
    refine lv_aload_n hx hb dL_law_847 rfl (lv_at hl 3 rfl) ?_
    refine lv_iconst (v := 0) hx hb dL_law_848 (by decide) ?_
    refine xo_lald hx hb hK.1 hR dL_law_849 ?_
    refine lv_iload hx hb dL_law_850 (lv_at hl 0 rfl) ?_
    refine lv_i2l (v := (mf_lose M (xs (i + 1))).1.toInt64) hx hb dL_law_852 rfl ?_
    have hvv : v' 0 = (mf_lose M (xs (i + 1))).1.toInt64 := by rw [hv', hr]
    refine W.eq (g2 := F0 m 853 ls [.long ((mf_lose M (xs (i + 1))).1.toInt64), .long ((mf_lose M (xs (i + 1))).1.toInt64)]) (congrArg (fun z => F0 m 853 ls [.long ((mf_lose M (xs (i + 1))).1.toInt64), .long z]) hvv) ?_
    refine lv_lcmpE hx hb dL_law_853 ?_
    refine lv_if_eq (tgt := 859) hx hb dL_law_854 (by decide) (fun _ => ?_) (fun h => absurd rfl h)
    refine lv_goto (tgt := 2388) hx hb dL_law_859 (by decide) ?_
    refine W.widen (k := cells + 870) (n := slots + 3850) (by omega) (by omega) ?_
    exact kk S' (mf_lose M (xs (i + 1))).2 H locs ls ⟨hCP2, ⟨g', h', v', hg0, hh', hR⟩, hM⟩ hS (lv_sub hl [2, 3, 4, 5, 6] rfl)
set_option maxHeartbeats 2000000 in
set_option maxRecDepth 100000 in
theorem lc_turnUp {CP : gs_T → gs_T → Prop} (hCPi : ∀ S M, CP S M → xi_ok S ∧ mi_ok M) (hc : ∀ S M (p1 : Int32) (p2 : Int32), CP S M → cl_P CP ["java/lang/IndexOutOfBoundsException", "java/lang/IllegalStateException"] (xp_turnUp S p1 p2) (mf_turnUp M p1 p2).1 (mf_turnUp M p1 p2).2 S) {l : Launch} {p : Program} {e : Env} {s : State} {m : MethodId} {below : List Frame} {meth : Method} {c : Code} {H : Heap} {locs : List Loc} {cells slots : Nat} {Q : State → Prop} {ls : Array Slot} {b Ln i : Nat} {xs : Nat → Int32} {E : en_T} {C : ex_C} {x0 ym o : Nat} {ad : Nat → Nat} {L : List Nat} {S M : gs_T} (hE : le_E l p s m meth c b Ln xs E C ym L) (hi : i + 8 ≤ Ln) (hW : LW CP E C s x0 ym o ad L S M H) (hS : va_S (la_9 s) s.heap H locs) (hl : lv_has ls 7 [(4, .int (nI i)), (3, .ref o), (2, .ref ym), (1, .ref x0), (0, .ref b)]) (hf : cells + 870 ≤ 1200384 ∧ slots + 3850 ≤ 5490858) (kk : ∀ (S' M' : gs_T) (H' : Heap) (locs' : List Loc) (ls' : Array Slot), LW CP E C s x0 ym o ad L S' M' H' → va_S (la_9 s) s.heap H' locs' → lv_has ls' 7 [(4, .int (nI i)), (3, .ref o), (2, .ref ym), (1, .ref x0), (0, .ref b)] → W p l e room_1 s m #[.ref b] below meth c H' locs' (cells + 870) (slots + 3850) Q (F0 m 2388 ls' [])) : W p l e room_1 s m #[.ref b] below meth c H locs cells slots Q (F0 m 862 ls []) := by
  obtain ⟨hx, hb, hml, hown, hts, hX, hbl, hK, hN, hZ, hfl, hL9, hLn⟩ := hE
  obtain ⟨hCP, ⟨g, h, v, hg0, hh, hR⟩, hM⟩ := hW
  obtain ⟨hI, hmi⟩ := hCPi S M hCP
  subst hg0
  refine lv_aload_n hx hb dL_law_862 rfl (lv_at hl 3 rfl) ?_
  refine lv_aload_n hx hb dL_law_863 rfl (lv_at hl 4 rfl) ?_
  refine lv_iload hx hb dL_law_864 (lv_at hl 0 rfl) ?_
  refine lv_iconst (v := nI 1) hx hb dL_law_866 (by decide) ?_
  refine sc_ld hx hb hX hbl hS (show i + 1 < Ln by omega) hLn dL_law_867 dL_law_868 ?_
  refine lv_aload_n hx hb dL_law_869 rfl (lv_at hl 4 rfl) ?_
  refine lv_iload hx hb dL_law_870 (lv_at hl 0 rfl) ?_
  refine lv_iconst (v := nI 2) hx hb dL_law_872 (by decide) ?_
  refine sc_ld hx hb hX hbl hS (show i + 2 < Ln by omega) hLn dL_law_873 dL_law_874 ?_
  refine lv_aload_n hx hb dL_law_875 rfl (lv_at hl 1 rfl) ?_
  have hcl := hc S M (xs (i + 1)) (xs (i + 2)) hCP
  have hmz : mi_ok M := hmi
  refine ls_S (As := [.ref (g 0 0), .int (xs (i + 1)), .int (xs (i + 2)), .ref o]) (rest := []) hK hN hZ hS (fun _ h => h.1) (la_new hS.1 (mr_lt hM)) hR ⟨hI, hh⟩ (wt_turnUp l hfl E C (la_A s L) H.size g h S o v (xs (i + 1)) (xs (i + 2))) ⟨hx, hb, hml, hown, hts⟩ (vx_cwSW 4 hts (lw_SW q661 q662 q32 q663) rfl rfl rfl (by decide +kernel) ⟨Nat.le_of_ble_eq_true rfl, Nat.le_of_ble_eq_true rfl⟩) rfl hl.1 rfl (Nat.le_of_ble_eq_true rfl) dL_law_876 ⟨(show _ ≤ 1200384 by omega), (show _ ≤ 5490858 by omega)⟩ (fun Xn ix v' H locs hxn hix hR hz hk hS => ?_) (fun r S' g' h' v' H locs hxn hg0 hh' hv' hR hz hk hS => ?_)
  · have hM := hM.kept (fun a ha hlt => hk a hlt (fun z => z.2 ha))
    obtain ⟨j, hj, ht, hCP2⟩ := hcl.1 Xn hxn
    have ej := li_ne (by decide) hix hj
    rw [← ej] at ht
    refine lv_istore (lv' := [(5, .int (nI (ix + 1))), (4, .int (nI i)), (3, .ref o), (2, .ref ym), (1, .ref (g 0 0)), (0, .ref b)]) hx hb dL_law_879 hl (by decide) rfl (fun ls hl => ?_)
    refine lv_aload_n hx hb dL_law_881 rfl (lv_at hl 3 rfl) ?_
    refine lv_aload_n hx hb dL_law_882 rfl (lv_at hl 5 rfl) ?_
    refine lv_iload hx hb dL_law_883 (lv_at hl 1 rfl) ?_
    refine lv_iconst (v := nI 1) hx hb dL_law_885 (by decide) ?_
    refine sc_ld hx hb hX hbl hS (show i + 1 < Ln by omega) hLn dL_law_886 dL_law_887 ?_
    refine lv_aload_n hx hb dL_law_888 rfl (lv_at hl 5 rfl) ?_
    refine lv_iload hx hb dL_law_889 (lv_at hl 1 rfl) ?_
    refine lv_iconst (v := nI 2) hx hb dL_law_891 (by decide) ?_
    refine sc_ld hx hb hX hbl hS (show i + 2 < Ln by omega) hLn dL_law_892 dL_law_893 ?_
    refine mr_calli (As := [.int (xs (i + 1)), .int (xs (i + 2))]) (rest := []) ⟨hx, hb, hml, hown, hts⟩ (mt_turnUp l E ym ad L M (xs (i + 1)) (xs (i + 2))) (cwV 2 hts (lw_V q1141 q1142 q1143 q41 q1144) rfl rfl rfl (by decide +kernel) ⟨Nat.le_of_ble_eq_true rfl, Nat.le_of_ble_eq_true rfl⟩) hmz hK.1 hM hL9 hS rfl hl.1 rfl (Nat.le_of_ble_eq_true rfl) dL_law_894 ⟨(show _ ≤ 1200384 by omega), (show _ ≤ 5490858 by omega)⟩ (fun H locs hM hS hz hk => ?_)
    have hR := hR.kept (fun a ha hlt => hk a hlt (fun z => ha.2 z))
    refine W.eq (g2 := F0 m 897 ls [.int (mf_turnUp M (xs (i + 1)) (xs (i + 2))).1]) rfl ?_
    refine lv_istore (lv' := [(6, .int (mf_turnUp M (xs (i + 1)) (xs (i + 2))).1), (5, .int (nI (ix + 1))), (4, .int (nI i)), (3, .ref o), (2, .ref ym), (1, .ref (g 0 0)), (0, .ref b)]) hx hb dL_law_897 hl (by decide) rfl (fun ls hl => ?_)
    refine lv_aload_n hx hb dL_law_899 rfl (lv_at hl 4 rfl) ?_
    refine mr_calli (As := []) (rest := []) ⟨hx, hb, hml, hown, hts⟩ (mt_thrown l E ym ad L (mf_turnUp M (xs (i + 1)) (xs (i + 2))).2) (cwV 0 hts (lw_V q1067 q1068 q1069 q41 q1070) rfl rfl rfl (by decide +kernel) ⟨Nat.le_of_ble_eq_true rfl, Nat.le_of_ble_eq_true rfl⟩) trivial hK.1 hM hL9 hS rfl hl.1 rfl (Nat.le_of_ble_eq_true rfl) dL_law_900 ⟨(show _ ≤ 1200384 by omega), (show _ ≤ 5490858 by omega)⟩ (fun H locs hM hS hz hk => ?_)
    have hR := hR.kept (fun a ha hlt => hk a hlt (fun z => ha.2 z))
    refine W.eq (g2 := F0 m 903 ls [.int (mf_thrown (mf_turnUp M (xs (i + 1)) (xs (i + 2))).2)]) rfl ?_
    refine lv_iload hx hb dL_law_903 (lv_at hl 1 rfl) ?_
    refine lv_icmp_eq (tgt := 910) hx hb dL_law_905 (by decide) (fun _ => ?_) (fun h => absurd ht h)
    refine lv_iload hx hb dL_law_910 (lv_at hl 1 rfl) ?_
    refine lv_if_ne (tgt := 927) hx hb dL_law_912 (by decide) (fun _ => ?_) (fun h => absurd h (li_n0 (by decide) hix))
    refine lv_goto (tgt := 2388) hx hb dL_law_927 (by decide) ?_
    refine W.widen (k := cells + 870) (n := slots + 3850) (by omega) (by omega) ?_
    exact kk S (mf_turnUp M (xs (i + 1)) (xs (i + 2))).2 H locs ls ⟨hCP2, ⟨g, h, v', rfl, hh, hR⟩, hM⟩ hS (lv_sub hl [2, 3, 4, 5, 6] rfl)
  · have hM := hM.kept (fun a ha hlt => hk a hlt (fun z => z.2 ha))
    obtain ⟨ht, hr, hCP2⟩ := hcl.2 r S' hxn
    refine lv_istore (lv' := [(5, .int 0), (4, .int (nI i)), (3, .ref o), (2, .ref ym), (1, .ref (g 0 0)), (0, .ref b)]) hx hb dL_law_879 hl (by decide) rfl (fun ls hl => ?_)
    refine lv_aload_n hx hb dL_law_881 rfl (lv_at hl 3 rfl) ?_
    refine lv_aload_n hx hb dL_law_882 rfl (lv_at hl 5 rfl) ?_
    refine lv_iload hx hb dL_law_883 (lv_at hl 1 rfl) ?_
    refine lv_iconst (v := nI 1) hx hb dL_law_885 (by decide) ?_
    refine sc_ld hx hb hX hbl hS (show i + 1 < Ln by omega) hLn dL_law_886 dL_law_887 ?_
    refine lv_aload_n hx hb dL_law_888 rfl (lv_at hl 5 rfl) ?_
    refine lv_iload hx hb dL_law_889 (lv_at hl 1 rfl) ?_
    refine lv_iconst (v := nI 2) hx hb dL_law_891 (by decide) ?_
    refine sc_ld hx hb hX hbl hS (show i + 2 < Ln by omega) hLn dL_law_892 dL_law_893 ?_
    refine mr_calli (As := [.int (xs (i + 1)), .int (xs (i + 2))]) (rest := []) ⟨hx, hb, hml, hown, hts⟩ (mt_turnUp l E ym ad L M (xs (i + 1)) (xs (i + 2))) (cwV 2 hts (lw_V q1141 q1142 q1143 q41 q1144) rfl rfl rfl (by decide +kernel) ⟨Nat.le_of_ble_eq_true rfl, Nat.le_of_ble_eq_true rfl⟩) hmz hK.1 hM hL9 hS rfl hl.1 rfl (Nat.le_of_ble_eq_true rfl) dL_law_894 ⟨(show _ ≤ 1200384 by omega), (show _ ≤ 5490858 by omega)⟩ (fun H locs hM hS hz hk => ?_)
    have hR := hR.kept (fun a ha hlt => hk a hlt (fun z => ha.2 z))
    refine W.eq (g2 := F0 m 897 ls [.int (mf_turnUp M (xs (i + 1)) (xs (i + 2))).1]) rfl ?_
    refine lv_istore (lv' := [(6, .int (mf_turnUp M (xs (i + 1)) (xs (i + 2))).1), (5, .int 0), (4, .int (nI i)), (3, .ref o), (2, .ref ym), (1, .ref (g 0 0)), (0, .ref b)]) hx hb dL_law_897 hl (by decide) rfl (fun ls hl => ?_)
    refine lv_aload_n hx hb dL_law_899 rfl (lv_at hl 4 rfl) ?_
    refine mr_calli (As := []) (rest := []) ⟨hx, hb, hml, hown, hts⟩ (mt_thrown l E ym ad L (mf_turnUp M (xs (i + 1)) (xs (i + 2))).2) (cwV 0 hts (lw_V q1067 q1068 q1069 q41 q1070) rfl rfl rfl (by decide +kernel) ⟨Nat.le_of_ble_eq_true rfl, Nat.le_of_ble_eq_true rfl⟩) trivial hK.1 hM hL9 hS rfl hl.1 rfl (Nat.le_of_ble_eq_true rfl) dL_law_900 ⟨(show _ ≤ 1200384 by omega), (show _ ≤ 5490858 by omega)⟩ (fun H locs hM hS hz hk => ?_)
    have hR := hR.kept (fun a ha hlt => hk a hlt (fun z => ha.2 z))
    refine W.eq (g2 := F0 m 903 ls [.int (mf_thrown (mf_turnUp M (xs (i + 1)) (xs (i + 2))).2)]) rfl ?_
    refine lv_iload hx hb dL_law_903 (lv_at hl 1 rfl) ?_
    refine lv_icmp_eq (tgt := 910) hx hb dL_law_905 (by decide) (fun _ => ?_) (fun h => absurd ht h)
    refine lv_iload hx hb dL_law_910 (lv_at hl 1 rfl) ?_
    refine lv_if_ne (tgt := 927) hx hb dL_law_912 (by decide) (fun h => absurd rfl h) (fun _ => ?_)
    refine lv_aload_n hx hb dL_law_915 rfl (lv_at hl 3 rfl) ?_
    refine lv_iconst (v := 0) hx hb dL_law_916 (by decide) ?_
    refine xo_lald hx hb hK.1 hR dL_law_917 ?_
    refine lv_iload hx hb dL_law_918 (lv_at hl 0 rfl) ?_
    refine lv_i2l (v := (mf_turnUp M (xs (i + 1)) (xs (i + 2))).1.toInt64) hx hb dL_law_920 rfl ?_
    have hvv : v' 0 = (mf_turnUp M (xs (i + 1)) (xs (i + 2))).1.toInt64 := by rw [hv', hr]
    refine W.eq (g2 := F0 m 921 ls [.long ((mf_turnUp M (xs (i + 1)) (xs (i + 2))).1.toInt64), .long ((mf_turnUp M (xs (i + 1)) (xs (i + 2))).1.toInt64)]) (congrArg (fun z => F0 m 921 ls [.long ((mf_turnUp M (xs (i + 1)) (xs (i + 2))).1.toInt64), .long z]) hvv) ?_
    refine lv_lcmpE hx hb dL_law_921 ?_
    refine lv_if_eq (tgt := 927) hx hb dL_law_922 (by decide) (fun _ => ?_) (fun h => absurd rfl h)
    refine lv_goto (tgt := 2388) hx hb dL_law_927 (by decide) ?_
    refine W.widen (k := cells + 870) (n := slots + 3850) (by omega) (by omega) ?_
    exact kk S' (mf_turnUp M (xs (i + 1)) (xs (i + 2))).2 H locs ls ⟨hCP2, ⟨g', h', v', hg0, hh', hR⟩, hM⟩ hS (lv_sub hl [2, 3, 4, 5, 6] rfl)
set_option maxHeartbeats 2000000 in
set_option maxRecDepth 100000 in
theorem lc_hold {CP : gs_T → gs_T → Prop} (hCPi : ∀ S M, CP S M → xi_ok S ∧ mi_ok M) (hc : ∀ S M (p1 : Int32) (p2 : Int32), (p2 = 0 ∨ p2 = 1) → CP S M → cl_P CP ["java/lang/IndexOutOfBoundsException", "java/lang/IllegalStateException"] (xp_hold S p1 p2) (mf_hold M p1 p2).1 (mf_hold M p1 p2).2 S) {l : Launch} {p : Program} {e : Env} {s : State} {m : MethodId} {below : List Frame} {meth : Method} {c : Code} {H : Heap} {locs : List Loc} {cells slots : Nat} {Q : State → Prop} {ls : Array Slot} {b Ln i : Nat} {xs : Nat → Int32} {E : en_T} {C : ex_C} {x0 ym o : Nat} {ad : Nat → Nat} {L : List Nat} {S M : gs_T} (hE : le_E l p s m meth c b Ln xs E C ym L) (hi : i + 8 ≤ Ln) (hW : LW CP E C s x0 ym o ad L S M H) (hS : va_S (la_9 s) s.heap H locs) (hl : lv_has ls 7 [(4, .int (nI i)), (3, .ref o), (2, .ref ym), (1, .ref x0), (0, .ref b)]) (hf : cells + 870 ≤ 1200384 ∧ slots + 3850 ≤ 5490858) (kk : ∀ (S' M' : gs_T) (H' : Heap) (locs' : List Loc) (ls' : Array Slot), LW CP E C s x0 ym o ad L S' M' H' → va_S (la_9 s) s.heap H' locs' → lv_has ls' 7 [(4, .int (nI i)), (3, .ref o), (2, .ref ym), (1, .ref x0), (0, .ref b)] → W p l e room_1 s m #[.ref b] below meth c H' locs' (cells + 870) (slots + 3850) Q (F0 m 2388 ls' [])) : W p l e room_1 s m #[.ref b] below meth c H locs cells slots Q (F0 m 930 ls []) := by
  obtain ⟨hx, hb, hml, hown, hts, hX, hbl, hK, hN, hZ, hfl, hL9, hLn⟩ := hE
  obtain ⟨hCP, ⟨g, h, v, hg0, hh, hR⟩, hM⟩ := hW
  obtain ⟨hI, hmi⟩ := hCPi S M hCP
  subst hg0
  refine lv_aload_n hx hb dL_law_930 rfl (lv_at hl 3 rfl) ?_
  refine lv_aload_n hx hb dL_law_931 rfl (lv_at hl 4 rfl) ?_
  refine lv_iload hx hb dL_law_932 (lv_at hl 0 rfl) ?_
  refine lv_iconst (v := nI 1) hx hb dL_law_934 (by decide) ?_
  refine sc_ld hx hb hX hbl hS (show i + 1 < Ln by omega) hLn dL_law_935 dL_law_936 ?_
  refine lv_aload_n hx hb dL_law_937 rfl (lv_at hl 4 rfl) ?_
  refine lv_iload hx hb dL_law_938 (lv_at hl 0 rfl) ?_
  refine lv_iconst (v := nI 2) hx hb dL_law_940 (by decide) ?_
  refine sc_ld hx hb hX hbl hS (show i + 2 < Ln by omega) hLn dL_law_941 dL_law_942 ?_
  refine sc_ne hx hb dL_law_943 dL_law_946 dL_law_947 dL_law_950 ?_
  refine lv_aload_n hx hb dL_law_951 rfl (lv_at hl 1 rfl) ?_
  have hcl := hc S M (xs (i + 1)) (if xs (i + 2) = 0 then (0 : Int32) else 1) sc_z hCP
  have hmz : mi_ok M := hmi
  refine ls_S (As := [.ref (g 0 0), .int (xs (i + 1)), .int (if xs (i + 2) = 0 then (0 : Int32) else 1), .ref o]) (rest := []) hK hN hZ hS (fun _ h => h.1) (la_new hS.1 (mr_lt hM)) hR ⟨hI, hh, sc_z⟩ (wt_hold l hfl E C (la_A s L) H.size g h S o v (xs (i + 1)) (if xs (i + 2) = 0 then (0 : Int32) else 1)) ⟨hx, hb, hml, hown, hts⟩ (vx_cwSW 4 hts (lw_SW q688 q689 q32 q690) rfl rfl rfl (by decide +kernel) ⟨Nat.le_of_ble_eq_true rfl, Nat.le_of_ble_eq_true rfl⟩) rfl hl.1 rfl (Nat.le_of_ble_eq_true rfl) dL_law_952 ⟨(show _ ≤ 1200384 by omega), (show _ ≤ 5490858 by omega)⟩ (fun Xn ix v' H locs hxn hix hR hz hk hS => ?_) (fun r S' g' h' v' H locs hxn hg0 hh' hv' hR hz hk hS => ?_)
  · have hM := hM.kept (fun a ha hlt => hk a hlt (fun z => z.2 ha))
    obtain ⟨j, hj, ht, hCP2⟩ := hcl.1 Xn hxn
    have ej := li_ne (by decide) hix hj
    rw [← ej] at ht
    refine lv_istore (lv' := [(5, .int (nI (ix + 1))), (4, .int (nI i)), (3, .ref o), (2, .ref ym), (1, .ref (g 0 0)), (0, .ref b)]) hx hb dL_law_955 hl (by decide) rfl (fun ls hl => ?_)
    refine lv_aload_n hx hb dL_law_957 rfl (lv_at hl 3 rfl) ?_
    refine lv_aload_n hx hb dL_law_958 rfl (lv_at hl 5 rfl) ?_
    refine lv_iload hx hb dL_law_959 (lv_at hl 1 rfl) ?_
    refine lv_iconst (v := nI 1) hx hb dL_law_961 (by decide) ?_
    refine sc_ld hx hb hX hbl hS (show i + 1 < Ln by omega) hLn dL_law_962 dL_law_963 ?_
    refine lv_aload_n hx hb dL_law_964 rfl (lv_at hl 5 rfl) ?_
    refine lv_iload hx hb dL_law_965 (lv_at hl 1 rfl) ?_
    refine lv_iconst (v := nI 2) hx hb dL_law_967 (by decide) ?_
    refine sc_ld hx hb hX hbl hS (show i + 2 < Ln by omega) hLn dL_law_968 dL_law_969 ?_
    refine sc_ne hx hb dL_law_970 dL_law_973 dL_law_974 dL_law_977 ?_
    refine mr_calli (As := [.int (xs (i + 1)), .int (if xs (i + 2) = 0 then (0 : Int32) else 1)]) (rest := []) ⟨hx, hb, hml, hown, hts⟩ (mt_hold l E ym ad L M (xs (i + 1)) (if xs (i + 2) = 0 then (0 : Int32) else 1)) (cwV 2 hts (lw_V q1145 q1146 q1147 q41 q1148) rfl rfl rfl (by decide +kernel) ⟨Nat.le_of_ble_eq_true rfl, Nat.le_of_ble_eq_true rfl⟩) ⟨hmz, sc_z⟩ hK.1 hM hL9 hS rfl hl.1 rfl (Nat.le_of_ble_eq_true rfl) dL_law_978 ⟨(show _ ≤ 1200384 by omega), (show _ ≤ 5490858 by omega)⟩ (fun H locs hM hS hz hk => ?_)
    have hR := hR.kept (fun a ha hlt => hk a hlt (fun z => ha.2 z))
    refine W.eq (g2 := F0 m 981 ls [.int (gs_bz (mf_hold M (xs (i + 1)) (if xs (i + 2) = 0 then (0 : Int32) else 1)).1)]) rfl ?_
    refine lv_istore (lv' := [(6, .int (gs_bz (mf_hold M (xs (i + 1)) (if xs (i + 2) = 0 then (0 : Int32) else 1)).1)), (5, .int (nI (ix + 1))), (4, .int (nI i)), (3, .ref o), (2, .ref ym), (1, .ref (g 0 0)), (0, .ref b)]) hx hb dL_law_981 hl (by decide) rfl (fun ls hl => ?_)
    refine lv_aload_n hx hb dL_law_983 rfl (lv_at hl 4 rfl) ?_
    refine mr_calli (As := []) (rest := []) ⟨hx, hb, hml, hown, hts⟩ (mt_thrown l E ym ad L (mf_hold M (xs (i + 1)) (if xs (i + 2) = 0 then (0 : Int32) else 1)).2) (cwV 0 hts (lw_V q1067 q1068 q1069 q41 q1070) rfl rfl rfl (by decide +kernel) ⟨Nat.le_of_ble_eq_true rfl, Nat.le_of_ble_eq_true rfl⟩) trivial hK.1 hM hL9 hS rfl hl.1 rfl (Nat.le_of_ble_eq_true rfl) dL_law_984 ⟨(show _ ≤ 1200384 by omega), (show _ ≤ 5490858 by omega)⟩ (fun H locs hM hS hz hk => ?_)
    have hR := hR.kept (fun a ha hlt => hk a hlt (fun z => ha.2 z))
    refine W.eq (g2 := F0 m 987 ls [.int (mf_thrown (mf_hold M (xs (i + 1)) (if xs (i + 2) = 0 then (0 : Int32) else 1)).2)]) rfl ?_
    refine lv_iload hx hb dL_law_987 (lv_at hl 1 rfl) ?_
    refine lv_icmp_eq (tgt := 994) hx hb dL_law_989 (by decide) (fun _ => ?_) (fun h => absurd ht h)
    refine lv_iload hx hb dL_law_994 (lv_at hl 1 rfl) ?_
    refine lv_if_ne (tgt := 1018) hx hb dL_law_996 (by decide) (fun _ => ?_) (fun h => absurd h (li_n0 (by decide) hix))
    refine lv_goto (tgt := 2388) hx hb dL_law_1018 (by decide) ?_
    refine W.widen (k := cells + 870) (n := slots + 3850) (by omega) (by omega) ?_
    exact kk S (mf_hold M (xs (i + 1)) (if xs (i + 2) = 0 then (0 : Int32) else 1)).2 H locs ls ⟨hCP2, ⟨g, h, v', rfl, hh, hR⟩, hM⟩ hS (lv_sub hl [2, 3, 4, 5, 6] rfl)
  · have hM := hM.kept (fun a ha hlt => hk a hlt (fun z => z.2 ha))
    obtain ⟨ht, hr, hCP2⟩ := hcl.2 r S' hxn
    refine lv_istore (lv' := [(5, .int 0), (4, .int (nI i)), (3, .ref o), (2, .ref ym), (1, .ref (g 0 0)), (0, .ref b)]) hx hb dL_law_955 hl (by decide) rfl (fun ls hl => ?_)
    refine lv_aload_n hx hb dL_law_957 rfl (lv_at hl 3 rfl) ?_
    refine lv_aload_n hx hb dL_law_958 rfl (lv_at hl 5 rfl) ?_
    refine lv_iload hx hb dL_law_959 (lv_at hl 1 rfl) ?_
    refine lv_iconst (v := nI 1) hx hb dL_law_961 (by decide) ?_
    refine sc_ld hx hb hX hbl hS (show i + 1 < Ln by omega) hLn dL_law_962 dL_law_963 ?_
    refine lv_aload_n hx hb dL_law_964 rfl (lv_at hl 5 rfl) ?_
    refine lv_iload hx hb dL_law_965 (lv_at hl 1 rfl) ?_
    refine lv_iconst (v := nI 2) hx hb dL_law_967 (by decide) ?_
    refine sc_ld hx hb hX hbl hS (show i + 2 < Ln by omega) hLn dL_law_968 dL_law_969 ?_
    refine sc_ne hx hb dL_law_970 dL_law_973 dL_law_974 dL_law_977 ?_
    refine mr_calli (As := [.int (xs (i + 1)), .int (if xs (i + 2) = 0 then (0 : Int32) else 1)]) (rest := []) ⟨hx, hb, hml, hown, hts⟩ (mt_hold l E ym ad L M (xs (i + 1)) (if xs (i + 2) = 0 then (0 : Int32) else 1)) (cwV 2 hts (lw_V q1145 q1146 q1147 q41 q1148) rfl rfl rfl (by decide +kernel) ⟨Nat.le_of_ble_eq_true rfl, Nat.le_of_ble_eq_true rfl⟩) ⟨hmz, sc_z⟩ hK.1 hM hL9 hS rfl hl.1 rfl (Nat.le_of_ble_eq_true rfl) dL_law_978 ⟨(show _ ≤ 1200384 by omega), (show _ ≤ 5490858 by omega)⟩ (fun H locs hM hS hz hk => ?_)
    have hR := hR.kept (fun a ha hlt => hk a hlt (fun z => ha.2 z))
    refine W.eq (g2 := F0 m 981 ls [.int (gs_bz (mf_hold M (xs (i + 1)) (if xs (i + 2) = 0 then (0 : Int32) else 1)).1)]) rfl ?_
    refine lv_istore (lv' := [(6, .int (gs_bz (mf_hold M (xs (i + 1)) (if xs (i + 2) = 0 then (0 : Int32) else 1)).1)), (5, .int 0), (4, .int (nI i)), (3, .ref o), (2, .ref ym), (1, .ref (g 0 0)), (0, .ref b)]) hx hb dL_law_981 hl (by decide) rfl (fun ls hl => ?_)
    refine lv_aload_n hx hb dL_law_983 rfl (lv_at hl 4 rfl) ?_
    refine mr_calli (As := []) (rest := []) ⟨hx, hb, hml, hown, hts⟩ (mt_thrown l E ym ad L (mf_hold M (xs (i + 1)) (if xs (i + 2) = 0 then (0 : Int32) else 1)).2) (cwV 0 hts (lw_V q1067 q1068 q1069 q41 q1070) rfl rfl rfl (by decide +kernel) ⟨Nat.le_of_ble_eq_true rfl, Nat.le_of_ble_eq_true rfl⟩) trivial hK.1 hM hL9 hS rfl hl.1 rfl (Nat.le_of_ble_eq_true rfl) dL_law_984 ⟨(show _ ≤ 1200384 by omega), (show _ ≤ 5490858 by omega)⟩ (fun H locs hM hS hz hk => ?_)
    have hR := hR.kept (fun a ha hlt => hk a hlt (fun z => ha.2 z))
    refine W.eq (g2 := F0 m 987 ls [.int (mf_thrown (mf_hold M (xs (i + 1)) (if xs (i + 2) = 0 then (0 : Int32) else 1)).2)]) rfl ?_
    refine lv_iload hx hb dL_law_987 (lv_at hl 1 rfl) ?_
    refine lv_icmp_eq (tgt := 994) hx hb dL_law_989 (by decide) (fun _ => ?_) (fun h => absurd ht h)
    refine lv_iload hx hb dL_law_994 (lv_at hl 1 rfl) ?_
    refine lv_if_ne (tgt := 1018) hx hb dL_law_996 (by decide) (fun h => absurd rfl h) (fun _ => ?_)
    refine lv_aload_n hx hb dL_law_999 rfl (lv_at hl 3 rfl) ?_
    refine lv_iconst (v := 0) hx hb dL_law_1000 (by decide) ?_
    refine xo_lald hx hb hK.1 hR dL_law_1001 ?_
    refine lv_iload hx hb dL_law_1002 (lv_at hl 0 rfl) ?_
    have hvv : v' 0 = (gs_bz (mf_hold M (xs (i + 1)) (if xs (i + 2) = 0 then (0 : Int32) else 1)).1).toInt64 := by rw [hv', hr]
    rcases Bool.eq_false_or_eq_true (mf_hold M (xs (i + 1)) (if xs (i + 2) = 0 then (0 : Int32) else 1)).1 with hbq | hbq
    · rw [hbq] at hvv
      refine W.eq (g2 := F0 m 1004 ls [.int 1, .long (v' 0)]) (by rw [hbq]; rfl) ?_
      refine lv_if_eq (tgt := 1011) hx hb dL_law_1004 (by decide) (fun h => absurd h (by decide)) (fun _ => ?_)
      refine lv_lconst (v := 1) hx hb dL_law_1007 (by decide) ?_
      refine lv_goto (tgt := 1012) hx hb dL_law_1008 (by decide) ?_
      have hvv : v' 0 = 1 := hvv.trans (by decide)
      refine W.eq (g2 := F0 m 1012 ls [.long 1, .long 1]) (congrArg (fun z => F0 m 1012 ls [.long 1, .long z]) hvv) ?_
      refine lv_lcmpE hx hb dL_law_1012 ?_
      refine lv_if_eq (tgt := 1018) hx hb dL_law_1013 (by decide) (fun _ => ?_) (fun h => absurd rfl h)
      refine lv_goto (tgt := 2388) hx hb dL_law_1018 (by decide) ?_
      refine W.widen (k := cells + 870) (n := slots + 3850) (by omega) (by omega) ?_
      exact kk S' (mf_hold M (xs (i + 1)) (if xs (i + 2) = 0 then (0 : Int32) else 1)).2 H locs ls ⟨hCP2, ⟨g', h', v', hg0, hh', hR⟩, hM⟩ hS (lv_sub hl [2, 3, 4, 5, 6] rfl)
    · rw [hbq] at hvv
      refine W.eq (g2 := F0 m 1004 ls [.int 0, .long (v' 0)]) (by rw [hbq]; rfl) ?_
      refine lv_if_eq (tgt := 1011) hx hb dL_law_1004 (by decide) (fun _ => ?_) (fun h => absurd rfl h)
      refine lv_lconst (v := 0) hx hb dL_law_1011 (by decide) ?_
      have hvv : v' 0 = 0 := hvv.trans (by decide)
      refine W.eq (g2 := F0 m 1012 ls [.long 0, .long 0]) (congrArg (fun z => F0 m 1012 ls [.long 0, .long z]) hvv) ?_
      refine lv_lcmpE hx hb dL_law_1012 ?_
      refine lv_if_eq (tgt := 1018) hx hb dL_law_1013 (by decide) (fun _ => ?_) (fun h => absurd rfl h)
      refine lv_goto (tgt := 2388) hx hb dL_law_1018 (by decide) ?_
      refine W.widen (k := cells + 870) (n := slots + 3850) (by omega) (by omega) ?_
      exact kk S' (mf_hold M (xs (i + 1)) (if xs (i + 2) = 0 then (0 : Int32) else 1)).2 H locs ls ⟨hCP2, ⟨g', h', v', hg0, hh', hR⟩, hM⟩ hS (lv_sub hl [2, 3, 4, 5, 6] rfl)
set_option maxHeartbeats 2000000 in
set_option maxRecDepth 100000 in
theorem lc_claim {CP : gs_T → gs_T → Prop} (hCPi : ∀ S M, CP S M → xi_ok S ∧ mi_ok M) (hc : ∀ S M (p1 : Int32) (p2 : Int32) (p3 : Int32) (p4 : Int32) (p5 : Int32), CP S M → cl_P CP ["java/lang/IndexOutOfBoundsException", "java/lang/IllegalArgumentException", "java/lang/IllegalStateException"] (xp_claim S p1 p2 p3 p4 p5) (mf_claim M p1 p2 p3 p4 p5).1 (mf_claim M p1 p2 p3 p4 p5).2 S) {l : Launch} {p : Program} {e : Env} {s : State} {m : MethodId} {below : List Frame} {meth : Method} {c : Code} {H : Heap} {locs : List Loc} {cells slots : Nat} {Q : State → Prop} {ls : Array Slot} {b Ln i : Nat} {xs : Nat → Int32} {E : en_T} {C : ex_C} {x0 ym o : Nat} {ad : Nat → Nat} {L : List Nat} {S M : gs_T} (hE : le_E l p s m meth c b Ln xs E C ym L) (hi : i + 8 ≤ Ln) (hW : LW CP E C s x0 ym o ad L S M H) (hS : va_S (la_9 s) s.heap H locs) (hl : lv_has ls 7 [(4, .int (nI i)), (3, .ref o), (2, .ref ym), (1, .ref x0), (0, .ref b)]) (hf : cells + 870 ≤ 1200384 ∧ slots + 3850 ≤ 5490858) (kk : ∀ (S' M' : gs_T) (H' : Heap) (locs' : List Loc) (ls' : Array Slot), LW CP E C s x0 ym o ad L S' M' H' → va_S (la_9 s) s.heap H' locs' → lv_has ls' 7 [(4, .int (nI i)), (3, .ref o), (2, .ref ym), (1, .ref x0), (0, .ref b)] → W p l e room_1 s m #[.ref b] below meth c H' locs' (cells + 870) (slots + 3850) Q (F0 m 2388 ls' [])) : W p l e room_1 s m #[.ref b] below meth c H locs cells slots Q (F0 m 1021 ls []) := by
  obtain ⟨hx, hb, hml, hown, hts, hX, hbl, hK, hN, hZ, hfl, hL9, hLn⟩ := hE
  obtain ⟨hCP, ⟨g, h, v, hg0, hh, hR⟩, hM⟩ := hW
  obtain ⟨hI, hmi⟩ := hCPi S M hCP
  subst hg0
  refine lv_aload_n hx hb dL_law_1021 rfl (lv_at hl 3 rfl) ?_
  refine lv_aload_n hx hb dL_law_1022 rfl (lv_at hl 4 rfl) ?_
  refine lv_iload hx hb dL_law_1023 (lv_at hl 0 rfl) ?_
  refine lv_iconst (v := nI 1) hx hb dL_law_1025 (by decide) ?_
  refine sc_ld hx hb hX hbl hS (show i + 1 < Ln by omega) hLn dL_law_1026 dL_law_1027 ?_
  refine lv_aload_n hx hb dL_law_1028 rfl (lv_at hl 4 rfl) ?_
  refine lv_iload hx hb dL_law_1029 (lv_at hl 0 rfl) ?_
  refine lv_iconst (v := nI 2) hx hb dL_law_1031 (by decide) ?_
  refine sc_ld hx hb hX hbl hS (show i + 2 < Ln by omega) hLn dL_law_1032 dL_law_1033 ?_
  refine lv_aload_n hx hb dL_law_1034 rfl (lv_at hl 4 rfl) ?_
  refine lv_iload hx hb dL_law_1035 (lv_at hl 0 rfl) ?_
  refine lv_iconst (v := nI 3) hx hb dL_law_1037 (by decide) ?_
  refine sc_ld hx hb hX hbl hS (show i + 3 < Ln by omega) hLn dL_law_1038 dL_law_1039 ?_
  refine lv_aload_n hx hb dL_law_1040 rfl (lv_at hl 4 rfl) ?_
  refine lv_iload hx hb dL_law_1041 (lv_at hl 0 rfl) ?_
  refine lv_iconst (v := nI 4) hx hb dL_law_1043 (by decide) ?_
  refine sc_ld hx hb hX hbl hS (show i + 4 < Ln by omega) hLn dL_law_1044 dL_law_1045 ?_
  refine lv_aload_n hx hb dL_law_1046 rfl (lv_at hl 4 rfl) ?_
  refine lv_iload hx hb dL_law_1047 (lv_at hl 0 rfl) ?_
  refine lv_iconst (v := nI 5) hx hb dL_law_1049 (by decide) ?_
  refine sc_ld hx hb hX hbl hS (show i + 5 < Ln by omega) hLn dL_law_1050 dL_law_1051 ?_
  refine lv_aload_n hx hb dL_law_1052 rfl (lv_at hl 1 rfl) ?_
  have hcl := hc S M (xs (i + 1)) (xs (i + 2)) (xs (i + 3)) (xs (i + 4)) (xs (i + 5)) hCP
  have hmz : mi_ok M := hmi
  refine ls_S (As := [.ref (g 0 0), .int (xs (i + 1)), .int (xs (i + 2)), .int (xs (i + 3)), .int (xs (i + 4)), .int (xs (i + 5)), .ref o]) (rest := []) hK hN hZ hS (fun _ h => h.1) (la_new hS.1 (mr_lt hM)) hR ⟨hI, hh⟩ (wt_claim l hfl E C (la_A s L) H.size g h S o v (xs (i + 1)) (xs (i + 2)) (xs (i + 3)) (xs (i + 4)) (xs (i + 5))) ⟨hx, hb, hml, hown, hts⟩ (vx_cwSW 7 hts (lw_SW q699 q700 q32 q701) rfl rfl rfl (by decide +kernel) ⟨Nat.le_of_ble_eq_true rfl, Nat.le_of_ble_eq_true rfl⟩) rfl hl.1 rfl (Nat.le_of_ble_eq_true rfl) dL_law_1053 ⟨(show _ ≤ 1200384 by omega), (show _ ≤ 5490858 by omega)⟩ (fun Xn ix v' H locs hxn hix hR hz hk hS => ?_) (fun r S' g' h' v' H locs hxn hg0 hh' hv' hR hz hk hS => ?_)
  · have hM := hM.kept (fun a ha hlt => hk a hlt (fun z => z.2 ha))
    obtain ⟨j, hj, ht, hCP2⟩ := hcl.1 Xn hxn
    have ej := li_ne (by decide) hix hj
    rw [← ej] at ht
    refine lv_istore (lv' := [(5, .int (nI (ix + 1))), (4, .int (nI i)), (3, .ref o), (2, .ref ym), (1, .ref (g 0 0)), (0, .ref b)]) hx hb dL_law_1056 hl (by decide) rfl (fun ls hl => ?_)
    refine lv_aload_n hx hb dL_law_1058 rfl (lv_at hl 3 rfl) ?_
    refine lv_aload_n hx hb dL_law_1059 rfl (lv_at hl 5 rfl) ?_
    refine lv_iload hx hb dL_law_1060 (lv_at hl 1 rfl) ?_
    refine lv_iconst (v := nI 1) hx hb dL_law_1062 (by decide) ?_
    refine sc_ld hx hb hX hbl hS (show i + 1 < Ln by omega) hLn dL_law_1063 dL_law_1064 ?_
    refine lv_aload_n hx hb dL_law_1065 rfl (lv_at hl 5 rfl) ?_
    refine lv_iload hx hb dL_law_1066 (lv_at hl 1 rfl) ?_
    refine lv_iconst (v := nI 2) hx hb dL_law_1068 (by decide) ?_
    refine sc_ld hx hb hX hbl hS (show i + 2 < Ln by omega) hLn dL_law_1069 dL_law_1070 ?_
    refine lv_aload_n hx hb dL_law_1071 rfl (lv_at hl 5 rfl) ?_
    refine lv_iload hx hb dL_law_1072 (lv_at hl 1 rfl) ?_
    refine lv_iconst (v := nI 3) hx hb dL_law_1074 (by decide) ?_
    refine sc_ld hx hb hX hbl hS (show i + 3 < Ln by omega) hLn dL_law_1075 dL_law_1076 ?_
    refine lv_aload_n hx hb dL_law_1077 rfl (lv_at hl 5 rfl) ?_
    refine lv_iload hx hb dL_law_1078 (lv_at hl 1 rfl) ?_
    refine lv_iconst (v := nI 4) hx hb dL_law_1080 (by decide) ?_
    refine sc_ld hx hb hX hbl hS (show i + 4 < Ln by omega) hLn dL_law_1081 dL_law_1082 ?_
    refine lv_aload_n hx hb dL_law_1083 rfl (lv_at hl 5 rfl) ?_
    refine lv_iload hx hb dL_law_1084 (lv_at hl 1 rfl) ?_
    refine lv_iconst (v := nI 5) hx hb dL_law_1086 (by decide) ?_
    refine sc_ld hx hb hX hbl hS (show i + 5 < Ln by omega) hLn dL_law_1087 dL_law_1088 ?_
    refine mr_calli (As := [.int (xs (i + 1)), .int (xs (i + 2)), .int (xs (i + 3)), .int (xs (i + 4)), .int (xs (i + 5))]) (rest := []) ⟨hx, hb, hml, hown, hts⟩ (mt_claim l E ym ad L M (xs (i + 1)) (xs (i + 2)) (xs (i + 3)) (xs (i + 4)) (xs (i + 5))) (cwV 5 hts (lw_V q1153 q1154 q1155 q41 q1156) rfl rfl rfl (by decide +kernel) ⟨Nat.le_of_ble_eq_true rfl, Nat.le_of_ble_eq_true rfl⟩) hmz hK.1 hM hL9 hS rfl hl.1 rfl (Nat.le_of_ble_eq_true rfl) dL_law_1089 ⟨(show _ ≤ 1200384 by omega), (show _ ≤ 5490858 by omega)⟩ (fun H locs hM hS hz hk => ?_)
    have hR := hR.kept (fun a ha hlt => hk a hlt (fun z => ha.2 z))
    refine W.eq (g2 := F0 m 1092 ls [.int (mf_claim M (xs (i + 1)) (xs (i + 2)) (xs (i + 3)) (xs (i + 4)) (xs (i + 5))).1]) rfl ?_
    refine lv_istore (lv' := [(6, .int (mf_claim M (xs (i + 1)) (xs (i + 2)) (xs (i + 3)) (xs (i + 4)) (xs (i + 5))).1), (5, .int (nI (ix + 1))), (4, .int (nI i)), (3, .ref o), (2, .ref ym), (1, .ref (g 0 0)), (0, .ref b)]) hx hb dL_law_1092 hl (by decide) rfl (fun ls hl => ?_)
    refine lv_aload_n hx hb dL_law_1094 rfl (lv_at hl 4 rfl) ?_
    refine mr_calli (As := []) (rest := []) ⟨hx, hb, hml, hown, hts⟩ (mt_thrown l E ym ad L (mf_claim M (xs (i + 1)) (xs (i + 2)) (xs (i + 3)) (xs (i + 4)) (xs (i + 5))).2) (cwV 0 hts (lw_V q1067 q1068 q1069 q41 q1070) rfl rfl rfl (by decide +kernel) ⟨Nat.le_of_ble_eq_true rfl, Nat.le_of_ble_eq_true rfl⟩) trivial hK.1 hM hL9 hS rfl hl.1 rfl (Nat.le_of_ble_eq_true rfl) dL_law_1095 ⟨(show _ ≤ 1200384 by omega), (show _ ≤ 5490858 by omega)⟩ (fun H locs hM hS hz hk => ?_)
    have hR := hR.kept (fun a ha hlt => hk a hlt (fun z => ha.2 z))
    refine W.eq (g2 := F0 m 1098 ls [.int (mf_thrown (mf_claim M (xs (i + 1)) (xs (i + 2)) (xs (i + 3)) (xs (i + 4)) (xs (i + 5))).2)]) rfl ?_
    refine lv_iload hx hb dL_law_1098 (lv_at hl 1 rfl) ?_
    refine lv_icmp_eq (tgt := 1105) hx hb dL_law_1100 (by decide) (fun _ => ?_) (fun h => absurd ht h)
    refine lv_iload hx hb dL_law_1105 (lv_at hl 1 rfl) ?_
    refine lv_if_ne (tgt := 1122) hx hb dL_law_1107 (by decide) (fun _ => ?_) (fun h => absurd h (li_n0 (by decide) hix))
    refine lv_goto (tgt := 2388) hx hb dL_law_1122 (by decide) ?_
    refine W.widen (k := cells + 870) (n := slots + 3850) (by omega) (by omega) ?_
    exact kk S (mf_claim M (xs (i + 1)) (xs (i + 2)) (xs (i + 3)) (xs (i + 4)) (xs (i + 5))).2 H locs ls ⟨hCP2, ⟨g, h, v', rfl, hh, hR⟩, hM⟩ hS (lv_sub hl [2, 3, 4, 5, 6] rfl)
  · have hM := hM.kept (fun a ha hlt => hk a hlt (fun z => z.2 ha))
    obtain ⟨ht, hr, hCP2⟩ := hcl.2 r S' hxn
    refine lv_istore (lv' := [(5, .int 0), (4, .int (nI i)), (3, .ref o), (2, .ref ym), (1, .ref (g 0 0)), (0, .ref b)]) hx hb dL_law_1056 hl (by decide) rfl (fun ls hl => ?_)
    refine lv_aload_n hx hb dL_law_1058 rfl (lv_at hl 3 rfl) ?_
    refine lv_aload_n hx hb dL_law_1059 rfl (lv_at hl 5 rfl) ?_
    refine lv_iload hx hb dL_law_1060 (lv_at hl 1 rfl) ?_
    refine lv_iconst (v := nI 1) hx hb dL_law_1062 (by decide) ?_
    refine sc_ld hx hb hX hbl hS (show i + 1 < Ln by omega) hLn dL_law_1063 dL_law_1064 ?_
    refine lv_aload_n hx hb dL_law_1065 rfl (lv_at hl 5 rfl) ?_
    refine lv_iload hx hb dL_law_1066 (lv_at hl 1 rfl) ?_
    refine lv_iconst (v := nI 2) hx hb dL_law_1068 (by decide) ?_
    refine sc_ld hx hb hX hbl hS (show i + 2 < Ln by omega) hLn dL_law_1069 dL_law_1070 ?_
    refine lv_aload_n hx hb dL_law_1071 rfl (lv_at hl 5 rfl) ?_
    refine lv_iload hx hb dL_law_1072 (lv_at hl 1 rfl) ?_
    refine lv_iconst (v := nI 3) hx hb dL_law_1074 (by decide) ?_
    refine sc_ld hx hb hX hbl hS (show i + 3 < Ln by omega) hLn dL_law_1075 dL_law_1076 ?_
    refine lv_aload_n hx hb dL_law_1077 rfl (lv_at hl 5 rfl) ?_
    refine lv_iload hx hb dL_law_1078 (lv_at hl 1 rfl) ?_
    refine lv_iconst (v := nI 4) hx hb dL_law_1080 (by decide) ?_
    refine sc_ld hx hb hX hbl hS (show i + 4 < Ln by omega) hLn dL_law_1081 dL_law_1082 ?_
    refine lv_aload_n hx hb dL_law_1083 rfl (lv_at hl 5 rfl) ?_
    refine lv_iload hx hb dL_law_1084 (lv_at hl 1 rfl) ?_
    refine lv_iconst (v := nI 5) hx hb dL_law_1086 (by decide) ?_
    refine sc_ld hx hb hX hbl hS (show i + 5 < Ln by omega) hLn dL_law_1087 dL_law_1088 ?_
    refine mr_calli (As := [.int (xs (i + 1)), .int (xs (i + 2)), .int (xs (i + 3)), .int (xs (i + 4)), .int (xs (i + 5))]) (rest := []) ⟨hx, hb, hml, hown, hts⟩ (mt_claim l E ym ad L M (xs (i + 1)) (xs (i + 2)) (xs (i + 3)) (xs (i + 4)) (xs (i + 5))) (cwV 5 hts (lw_V q1153 q1154 q1155 q41 q1156) rfl rfl rfl (by decide +kernel) ⟨Nat.le_of_ble_eq_true rfl, Nat.le_of_ble_eq_true rfl⟩) hmz hK.1 hM hL9 hS rfl hl.1 rfl (Nat.le_of_ble_eq_true rfl) dL_law_1089 ⟨(show _ ≤ 1200384 by omega), (show _ ≤ 5490858 by omega)⟩ (fun H locs hM hS hz hk => ?_)
    have hR := hR.kept (fun a ha hlt => hk a hlt (fun z => ha.2 z))
    refine W.eq (g2 := F0 m 1092 ls [.int (mf_claim M (xs (i + 1)) (xs (i + 2)) (xs (i + 3)) (xs (i + 4)) (xs (i + 5))).1]) rfl ?_
    refine lv_istore (lv' := [(6, .int (mf_claim M (xs (i + 1)) (xs (i + 2)) (xs (i + 3)) (xs (i + 4)) (xs (i + 5))).1), (5, .int 0), (4, .int (nI i)), (3, .ref o), (2, .ref ym), (1, .ref (g 0 0)), (0, .ref b)]) hx hb dL_law_1092 hl (by decide) rfl (fun ls hl => ?_)
    refine lv_aload_n hx hb dL_law_1094 rfl (lv_at hl 4 rfl) ?_
    refine mr_calli (As := []) (rest := []) ⟨hx, hb, hml, hown, hts⟩ (mt_thrown l E ym ad L (mf_claim M (xs (i + 1)) (xs (i + 2)) (xs (i + 3)) (xs (i + 4)) (xs (i + 5))).2) (cwV 0 hts (lw_V q1067 q1068 q1069 q41 q1070) rfl rfl rfl (by decide +kernel) ⟨Nat.le_of_ble_eq_true rfl, Nat.le_of_ble_eq_true rfl⟩) trivial hK.1 hM hL9 hS rfl hl.1 rfl (Nat.le_of_ble_eq_true rfl) dL_law_1095 ⟨(show _ ≤ 1200384 by omega), (show _ ≤ 5490858 by omega)⟩ (fun H locs hM hS hz hk => ?_)
    have hR := hR.kept (fun a ha hlt => hk a hlt (fun z => ha.2 z))
    refine W.eq (g2 := F0 m 1098 ls [.int (mf_thrown (mf_claim M (xs (i + 1)) (xs (i + 2)) (xs (i + 3)) (xs (i + 4)) (xs (i + 5))).2)]) rfl ?_
    refine lv_iload hx hb dL_law_1098 (lv_at hl 1 rfl) ?_
    refine lv_icmp_eq (tgt := 1105) hx hb dL_law_1100 (by decide) (fun _ => ?_) (fun h => absurd ht h)
    refine lv_iload hx hb dL_law_1105 (lv_at hl 1 rfl) ?_
    refine lv_if_ne (tgt := 1122) hx hb dL_law_1107 (by decide) (fun h => absurd rfl h) (fun _ => ?_)
    refine lv_aload_n hx hb dL_law_1110 rfl (lv_at hl 3 rfl) ?_
    refine lv_iconst (v := 0) hx hb dL_law_1111 (by decide) ?_
    refine xo_lald hx hb hK.1 hR dL_law_1112 ?_
    refine lv_iload hx hb dL_law_1113 (lv_at hl 0 rfl) ?_
    refine lv_i2l (v := (mf_claim M (xs (i + 1)) (xs (i + 2)) (xs (i + 3)) (xs (i + 4)) (xs (i + 5))).1.toInt64) hx hb dL_law_1115 rfl ?_
    have hvv : v' 0 = (mf_claim M (xs (i + 1)) (xs (i + 2)) (xs (i + 3)) (xs (i + 4)) (xs (i + 5))).1.toInt64 := by rw [hv', hr]
    refine W.eq (g2 := F0 m 1116 ls [.long ((mf_claim M (xs (i + 1)) (xs (i + 2)) (xs (i + 3)) (xs (i + 4)) (xs (i + 5))).1.toInt64), .long ((mf_claim M (xs (i + 1)) (xs (i + 2)) (xs (i + 3)) (xs (i + 4)) (xs (i + 5))).1.toInt64)]) (congrArg (fun z => F0 m 1116 ls [.long ((mf_claim M (xs (i + 1)) (xs (i + 2)) (xs (i + 3)) (xs (i + 4)) (xs (i + 5))).1.toInt64), .long z]) hvv) ?_
    refine lv_lcmpE hx hb dL_law_1116 ?_
    refine lv_if_eq (tgt := 1122) hx hb dL_law_1117 (by decide) (fun _ => ?_) (fun h => absurd rfl h)
    refine lv_goto (tgt := 2388) hx hb dL_law_1122 (by decide) ?_
    refine W.widen (k := cells + 870) (n := slots + 3850) (by omega) (by omega) ?_
    exact kk S' (mf_claim M (xs (i + 1)) (xs (i + 2)) (xs (i + 3)) (xs (i + 4)) (xs (i + 5))).2 H locs ls ⟨hCP2, ⟨g', h', v', hg0, hh', hR⟩, hM⟩ hS (lv_sub hl [2, 3, 4, 5, 6] rfl)
set_option maxHeartbeats 2000000 in
set_option maxRecDepth 100000 in
theorem lc_say {CP : gs_T → gs_T → Prop} (hCPi : ∀ S M, CP S M → xi_ok S ∧ mi_ok M) (hc : ∀ S M (p1 : Int32) (p2 : Int32), CP S M → cl_P CP ["java/lang/IndexOutOfBoundsException", "java/lang/IllegalArgumentException", "java/lang/IllegalStateException"] (xp_say S p1 p2) (mf_say M p1 p2).1 (mf_say M p1 p2).2 S) {l : Launch} {p : Program} {e : Env} {s : State} {m : MethodId} {below : List Frame} {meth : Method} {c : Code} {H : Heap} {locs : List Loc} {cells slots : Nat} {Q : State → Prop} {ls : Array Slot} {b Ln i : Nat} {xs : Nat → Int32} {E : en_T} {C : ex_C} {x0 ym o : Nat} {ad : Nat → Nat} {L : List Nat} {S M : gs_T} (hE : le_E l p s m meth c b Ln xs E C ym L) (hi : i + 8 ≤ Ln) (hW : LW CP E C s x0 ym o ad L S M H) (hS : va_S (la_9 s) s.heap H locs) (hl : lv_has ls 7 [(4, .int (nI i)), (3, .ref o), (2, .ref ym), (1, .ref x0), (0, .ref b)]) (hf : cells + 870 ≤ 1200384 ∧ slots + 3850 ≤ 5490858) (kk : ∀ (S' M' : gs_T) (H' : Heap) (locs' : List Loc) (ls' : Array Slot), LW CP E C s x0 ym o ad L S' M' H' → va_S (la_9 s) s.heap H' locs' → lv_has ls' 7 [(4, .int (nI i)), (3, .ref o), (2, .ref ym), (1, .ref x0), (0, .ref b)] → W p l e room_1 s m #[.ref b] below meth c H' locs' (cells + 870) (slots + 3850) Q (F0 m 2388 ls' [])) : W p l e room_1 s m #[.ref b] below meth c H locs cells slots Q (F0 m 1125 ls []) := by
  obtain ⟨hx, hb, hml, hown, hts, hX, hbl, hK, hN, hZ, hfl, hL9, hLn⟩ := hE
  obtain ⟨hCP, ⟨g, h, v, hg0, hh, hR⟩, hM⟩ := hW
  obtain ⟨hI, hmi⟩ := hCPi S M hCP
  subst hg0
  refine lv_aload_n hx hb dL_law_1125 rfl (lv_at hl 3 rfl) ?_
  refine lv_aload_n hx hb dL_law_1126 rfl (lv_at hl 4 rfl) ?_
  refine lv_iload hx hb dL_law_1127 (lv_at hl 0 rfl) ?_
  refine lv_iconst (v := nI 1) hx hb dL_law_1129 (by decide) ?_
  refine sc_ld hx hb hX hbl hS (show i + 1 < Ln by omega) hLn dL_law_1130 dL_law_1131 ?_
  refine lv_aload_n hx hb dL_law_1132 rfl (lv_at hl 4 rfl) ?_
  refine lv_iload hx hb dL_law_1133 (lv_at hl 0 rfl) ?_
  refine lv_iconst (v := nI 2) hx hb dL_law_1135 (by decide) ?_
  refine sc_ld hx hb hX hbl hS (show i + 2 < Ln by omega) hLn dL_law_1136 dL_law_1137 ?_
  refine lv_aload_n hx hb dL_law_1138 rfl (lv_at hl 1 rfl) ?_
  have hcl := hc S M (xs (i + 1)) (xs (i + 2)) hCP
  have hmz : mi_ok M := hmi
  refine ls_S (As := [.ref (g 0 0), .int (xs (i + 1)), .int (xs (i + 2)), .ref o]) (rest := []) hK hN hZ hS (fun _ h => h.1) (la_new hS.1 (mr_lt hM)) hR ⟨hI, hh⟩ (wt_say l hfl E C (la_A s L) H.size g h S o v (xs (i + 1)) (xs (i + 2))) ⟨hx, hb, hml, hown, hts⟩ (vx_cwSW 4 hts (lw_SW q752 q753 q32 q754) rfl rfl rfl (by decide +kernel) ⟨Nat.le_of_ble_eq_true rfl, Nat.le_of_ble_eq_true rfl⟩) rfl hl.1 rfl (Nat.le_of_ble_eq_true rfl) dL_law_1139 ⟨(show _ ≤ 1200384 by omega), (show _ ≤ 5490858 by omega)⟩ (fun Xn ix v' H locs hxn hix hR hz hk hS => ?_) (fun r S' g' h' v' H locs hxn hg0 hh' hv' hR hz hk hS => ?_)
  · have hM := hM.kept (fun a ha hlt => hk a hlt (fun z => z.2 ha))
    obtain ⟨j, hj, ht, hCP2⟩ := hcl.1 Xn hxn
    have ej := li_ne (by decide) hix hj
    rw [← ej] at ht
    refine lv_istore (lv' := [(5, .int (nI (ix + 1))), (4, .int (nI i)), (3, .ref o), (2, .ref ym), (1, .ref (g 0 0)), (0, .ref b)]) hx hb dL_law_1142 hl (by decide) rfl (fun ls hl => ?_)
    refine lv_aload_n hx hb dL_law_1144 rfl (lv_at hl 3 rfl) ?_
    refine lv_aload_n hx hb dL_law_1145 rfl (lv_at hl 5 rfl) ?_
    refine lv_iload hx hb dL_law_1146 (lv_at hl 1 rfl) ?_
    refine lv_iconst (v := nI 1) hx hb dL_law_1148 (by decide) ?_
    refine sc_ld hx hb hX hbl hS (show i + 1 < Ln by omega) hLn dL_law_1149 dL_law_1150 ?_
    refine lv_aload_n hx hb dL_law_1151 rfl (lv_at hl 5 rfl) ?_
    refine lv_iload hx hb dL_law_1152 (lv_at hl 1 rfl) ?_
    refine lv_iconst (v := nI 2) hx hb dL_law_1154 (by decide) ?_
    refine sc_ld hx hb hX hbl hS (show i + 2 < Ln by omega) hLn dL_law_1155 dL_law_1156 ?_
    refine mr_calli (As := [.int (xs (i + 1)), .int (xs (i + 2))]) (rest := []) ⟨hx, hb, hml, hown, hts⟩ (mt_say l E ym ad L M (xs (i + 1)) (xs (i + 2))) (cwV 2 hts (lw_V q1157 q1158 q1159 q41 q1160) rfl rfl rfl (by decide +kernel) ⟨Nat.le_of_ble_eq_true rfl, Nat.le_of_ble_eq_true rfl⟩) hmz hK.1 hM hL9 hS rfl hl.1 rfl (Nat.le_of_ble_eq_true rfl) dL_law_1157 ⟨(show _ ≤ 1200384 by omega), (show _ ≤ 5490858 by omega)⟩ (fun H locs hM hS hz hk => ?_)
    have hR := hR.kept (fun a ha hlt => hk a hlt (fun z => ha.2 z))
    refine W.eq (g2 := F0 m 1160 ls [.int (mf_say M (xs (i + 1)) (xs (i + 2))).1]) rfl ?_
    refine lv_istore (lv' := [(6, .int (mf_say M (xs (i + 1)) (xs (i + 2))).1), (5, .int (nI (ix + 1))), (4, .int (nI i)), (3, .ref o), (2, .ref ym), (1, .ref (g 0 0)), (0, .ref b)]) hx hb dL_law_1160 hl (by decide) rfl (fun ls hl => ?_)
    refine lv_aload_n hx hb dL_law_1162 rfl (lv_at hl 4 rfl) ?_
    refine mr_calli (As := []) (rest := []) ⟨hx, hb, hml, hown, hts⟩ (mt_thrown l E ym ad L (mf_say M (xs (i + 1)) (xs (i + 2))).2) (cwV 0 hts (lw_V q1067 q1068 q1069 q41 q1070) rfl rfl rfl (by decide +kernel) ⟨Nat.le_of_ble_eq_true rfl, Nat.le_of_ble_eq_true rfl⟩) trivial hK.1 hM hL9 hS rfl hl.1 rfl (Nat.le_of_ble_eq_true rfl) dL_law_1163 ⟨(show _ ≤ 1200384 by omega), (show _ ≤ 5490858 by omega)⟩ (fun H locs hM hS hz hk => ?_)
    have hR := hR.kept (fun a ha hlt => hk a hlt (fun z => ha.2 z))
    refine W.eq (g2 := F0 m 1166 ls [.int (mf_thrown (mf_say M (xs (i + 1)) (xs (i + 2))).2)]) rfl ?_
    refine lv_iload hx hb dL_law_1166 (lv_at hl 1 rfl) ?_
    refine lv_icmp_eq (tgt := 1173) hx hb dL_law_1168 (by decide) (fun _ => ?_) (fun h => absurd ht h)
    refine lv_iload hx hb dL_law_1173 (lv_at hl 1 rfl) ?_
    refine lv_if_ne (tgt := 1190) hx hb dL_law_1175 (by decide) (fun _ => ?_) (fun h => absurd h (li_n0 (by decide) hix))
    refine lv_goto (tgt := 2388) hx hb dL_law_1190 (by decide) ?_
    refine W.widen (k := cells + 870) (n := slots + 3850) (by omega) (by omega) ?_
    exact kk S (mf_say M (xs (i + 1)) (xs (i + 2))).2 H locs ls ⟨hCP2, ⟨g, h, v', rfl, hh, hR⟩, hM⟩ hS (lv_sub hl [2, 3, 4, 5, 6] rfl)
  · have hM := hM.kept (fun a ha hlt => hk a hlt (fun z => z.2 ha))
    obtain ⟨ht, hr, hCP2⟩ := hcl.2 r S' hxn
    refine lv_istore (lv' := [(5, .int 0), (4, .int (nI i)), (3, .ref o), (2, .ref ym), (1, .ref (g 0 0)), (0, .ref b)]) hx hb dL_law_1142 hl (by decide) rfl (fun ls hl => ?_)
    refine lv_aload_n hx hb dL_law_1144 rfl (lv_at hl 3 rfl) ?_
    refine lv_aload_n hx hb dL_law_1145 rfl (lv_at hl 5 rfl) ?_
    refine lv_iload hx hb dL_law_1146 (lv_at hl 1 rfl) ?_
    refine lv_iconst (v := nI 1) hx hb dL_law_1148 (by decide) ?_
    refine sc_ld hx hb hX hbl hS (show i + 1 < Ln by omega) hLn dL_law_1149 dL_law_1150 ?_
    refine lv_aload_n hx hb dL_law_1151 rfl (lv_at hl 5 rfl) ?_
    refine lv_iload hx hb dL_law_1152 (lv_at hl 1 rfl) ?_
    refine lv_iconst (v := nI 2) hx hb dL_law_1154 (by decide) ?_
    refine sc_ld hx hb hX hbl hS (show i + 2 < Ln by omega) hLn dL_law_1155 dL_law_1156 ?_
    refine mr_calli (As := [.int (xs (i + 1)), .int (xs (i + 2))]) (rest := []) ⟨hx, hb, hml, hown, hts⟩ (mt_say l E ym ad L M (xs (i + 1)) (xs (i + 2))) (cwV 2 hts (lw_V q1157 q1158 q1159 q41 q1160) rfl rfl rfl (by decide +kernel) ⟨Nat.le_of_ble_eq_true rfl, Nat.le_of_ble_eq_true rfl⟩) hmz hK.1 hM hL9 hS rfl hl.1 rfl (Nat.le_of_ble_eq_true rfl) dL_law_1157 ⟨(show _ ≤ 1200384 by omega), (show _ ≤ 5490858 by omega)⟩ (fun H locs hM hS hz hk => ?_)
    have hR := hR.kept (fun a ha hlt => hk a hlt (fun z => ha.2 z))
    refine W.eq (g2 := F0 m 1160 ls [.int (mf_say M (xs (i + 1)) (xs (i + 2))).1]) rfl ?_
    refine lv_istore (lv' := [(6, .int (mf_say M (xs (i + 1)) (xs (i + 2))).1), (5, .int 0), (4, .int (nI i)), (3, .ref o), (2, .ref ym), (1, .ref (g 0 0)), (0, .ref b)]) hx hb dL_law_1160 hl (by decide) rfl (fun ls hl => ?_)
    refine lv_aload_n hx hb dL_law_1162 rfl (lv_at hl 4 rfl) ?_
    refine mr_calli (As := []) (rest := []) ⟨hx, hb, hml, hown, hts⟩ (mt_thrown l E ym ad L (mf_say M (xs (i + 1)) (xs (i + 2))).2) (cwV 0 hts (lw_V q1067 q1068 q1069 q41 q1070) rfl rfl rfl (by decide +kernel) ⟨Nat.le_of_ble_eq_true rfl, Nat.le_of_ble_eq_true rfl⟩) trivial hK.1 hM hL9 hS rfl hl.1 rfl (Nat.le_of_ble_eq_true rfl) dL_law_1163 ⟨(show _ ≤ 1200384 by omega), (show _ ≤ 5490858 by omega)⟩ (fun H locs hM hS hz hk => ?_)
    have hR := hR.kept (fun a ha hlt => hk a hlt (fun z => ha.2 z))
    refine W.eq (g2 := F0 m 1166 ls [.int (mf_thrown (mf_say M (xs (i + 1)) (xs (i + 2))).2)]) rfl ?_
    refine lv_iload hx hb dL_law_1166 (lv_at hl 1 rfl) ?_
    refine lv_icmp_eq (tgt := 1173) hx hb dL_law_1168 (by decide) (fun _ => ?_) (fun h => absurd ht h)
    refine lv_iload hx hb dL_law_1173 (lv_at hl 1 rfl) ?_
    refine lv_if_ne (tgt := 1190) hx hb dL_law_1175 (by decide) (fun h => absurd rfl h) (fun _ => ?_)
    refine lv_aload_n hx hb dL_law_1178 rfl (lv_at hl 3 rfl) ?_
    refine lv_iconst (v := 0) hx hb dL_law_1179 (by decide) ?_
    refine xo_lald hx hb hK.1 hR dL_law_1180 ?_
    refine lv_iload hx hb dL_law_1181 (lv_at hl 0 rfl) ?_
    refine lv_i2l (v := (mf_say M (xs (i + 1)) (xs (i + 2))).1.toInt64) hx hb dL_law_1183 rfl ?_
    have hvv : v' 0 = (mf_say M (xs (i + 1)) (xs (i + 2))).1.toInt64 := by rw [hv', hr]
    refine W.eq (g2 := F0 m 1184 ls [.long ((mf_say M (xs (i + 1)) (xs (i + 2))).1.toInt64), .long ((mf_say M (xs (i + 1)) (xs (i + 2))).1.toInt64)]) (congrArg (fun z => F0 m 1184 ls [.long ((mf_say M (xs (i + 1)) (xs (i + 2))).1.toInt64), .long z]) hvv) ?_
    refine lv_lcmpE hx hb dL_law_1184 ?_
    refine lv_if_eq (tgt := 1190) hx hb dL_law_1185 (by decide) (fun _ => ?_) (fun h => absurd rfl h)
    refine lv_goto (tgt := 2388) hx hb dL_law_1190 (by decide) ?_
    refine W.widen (k := cells + 870) (n := slots + 3850) (by omega) (by omega) ?_
    exact kk S' (mf_say M (xs (i + 1)) (xs (i + 2))).2 H locs ls ⟨hCP2, ⟨g', h', v', hg0, hh', hR⟩, hM⟩ hS (lv_sub hl [2, 3, 4, 5, 6] rfl)
set_option maxHeartbeats 2000000 in
set_option maxRecDepth 100000 in
theorem lc_tell {CP : gs_T → gs_T → Prop} (hCPi : ∀ S M, CP S M → xi_ok S ∧ mi_ok M) (hc : ∀ S M (p1 : Int32) (p2 : Int32), CP S M → cl_P CP ["java/lang/IndexOutOfBoundsException", "java/lang/IllegalArgumentException", "java/lang/IllegalStateException"] (xp_tell S p1 p2) (mf_tell M p1 p2).1 (mf_tell M p1 p2).2 S) {l : Launch} {p : Program} {e : Env} {s : State} {m : MethodId} {below : List Frame} {meth : Method} {c : Code} {H : Heap} {locs : List Loc} {cells slots : Nat} {Q : State → Prop} {ls : Array Slot} {b Ln i : Nat} {xs : Nat → Int32} {E : en_T} {C : ex_C} {x0 ym o : Nat} {ad : Nat → Nat} {L : List Nat} {S M : gs_T} (hE : le_E l p s m meth c b Ln xs E C ym L) (hi : i + 8 ≤ Ln) (hW : LW CP E C s x0 ym o ad L S M H) (hS : va_S (la_9 s) s.heap H locs) (hl : lv_has ls 7 [(4, .int (nI i)), (3, .ref o), (2, .ref ym), (1, .ref x0), (0, .ref b)]) (hf : cells + 870 ≤ 1200384 ∧ slots + 3850 ≤ 5490858) (kk : ∀ (S' M' : gs_T) (H' : Heap) (locs' : List Loc) (ls' : Array Slot), LW CP E C s x0 ym o ad L S' M' H' → va_S (la_9 s) s.heap H' locs' → lv_has ls' 7 [(4, .int (nI i)), (3, .ref o), (2, .ref ym), (1, .ref x0), (0, .ref b)] → W p l e room_1 s m #[.ref b] below meth c H' locs' (cells + 870) (slots + 3850) Q (F0 m 2388 ls' [])) : W p l e room_1 s m #[.ref b] below meth c H locs cells slots Q (F0 m 1193 ls []) := by
  obtain ⟨hx, hb, hml, hown, hts, hX, hbl, hK, hN, hZ, hfl, hL9, hLn⟩ := hE
  obtain ⟨hCP, ⟨g, h, v, hg0, hh, hR⟩, hM⟩ := hW
  obtain ⟨hI, hmi⟩ := hCPi S M hCP
  subst hg0
  refine lv_aload_n hx hb dL_law_1193 rfl (lv_at hl 3 rfl) ?_
  refine lv_aload_n hx hb dL_law_1194 rfl (lv_at hl 4 rfl) ?_
  refine lv_iload hx hb dL_law_1195 (lv_at hl 0 rfl) ?_
  refine lv_iconst (v := nI 1) hx hb dL_law_1197 (by decide) ?_
  refine sc_ld hx hb hX hbl hS (show i + 1 < Ln by omega) hLn dL_law_1198 dL_law_1199 ?_
  refine lv_aload_n hx hb dL_law_1200 rfl (lv_at hl 4 rfl) ?_
  refine lv_iload hx hb dL_law_1201 (lv_at hl 0 rfl) ?_
  refine lv_iconst (v := nI 2) hx hb dL_law_1203 (by decide) ?_
  refine sc_ld hx hb hX hbl hS (show i + 2 < Ln by omega) hLn dL_law_1204 dL_law_1205 ?_
  refine lv_aload_n hx hb dL_law_1206 rfl (lv_at hl 1 rfl) ?_
  have hcl := hc S M (xs (i + 1)) (xs (i + 2)) hCP
  have hmz : mi_ok M := hmi
  refine ls_S (As := [.ref (g 0 0), .int (xs (i + 1)), .int (xs (i + 2)), .ref o]) (rest := []) hK hN hZ hS (fun _ h => h.1) (la_new hS.1 (mr_lt hM)) hR ⟨hI, hh⟩ (wt_tell l hfl E C (la_A s L) H.size g h S o v (xs (i + 1)) (xs (i + 2))) ⟨hx, hb, hml, hown, hts⟩ (vx_cwSW 4 hts (lw_SW q763 q764 q32 q765) rfl rfl rfl (by decide +kernel) ⟨Nat.le_of_ble_eq_true rfl, Nat.le_of_ble_eq_true rfl⟩) rfl hl.1 rfl (Nat.le_of_ble_eq_true rfl) dL_law_1207 ⟨(show _ ≤ 1200384 by omega), (show _ ≤ 5490858 by omega)⟩ (fun Xn ix v' H locs hxn hix hR hz hk hS => ?_) (fun r S' g' h' v' H locs hxn hg0 hh' hv' hR hz hk hS => ?_)
  · have hM := hM.kept (fun a ha hlt => hk a hlt (fun z => z.2 ha))
    obtain ⟨j, hj, ht, hCP2⟩ := hcl.1 Xn hxn
    have ej := li_ne (by decide) hix hj
    rw [← ej] at ht
    refine lv_istore (lv' := [(5, .int (nI (ix + 1))), (4, .int (nI i)), (3, .ref o), (2, .ref ym), (1, .ref (g 0 0)), (0, .ref b)]) hx hb dL_law_1210 hl (by decide) rfl (fun ls hl => ?_)
    refine lv_aload_n hx hb dL_law_1212 rfl (lv_at hl 3 rfl) ?_
    refine lv_aload_n hx hb dL_law_1213 rfl (lv_at hl 5 rfl) ?_
    refine lv_iload hx hb dL_law_1214 (lv_at hl 1 rfl) ?_
    refine lv_iconst (v := nI 1) hx hb dL_law_1216 (by decide) ?_
    refine sc_ld hx hb hX hbl hS (show i + 1 < Ln by omega) hLn dL_law_1217 dL_law_1218 ?_
    refine lv_aload_n hx hb dL_law_1219 rfl (lv_at hl 5 rfl) ?_
    refine lv_iload hx hb dL_law_1220 (lv_at hl 1 rfl) ?_
    refine lv_iconst (v := nI 2) hx hb dL_law_1222 (by decide) ?_
    refine sc_ld hx hb hX hbl hS (show i + 2 < Ln by omega) hLn dL_law_1223 dL_law_1224 ?_
    refine mr_calli (As := [.int (xs (i + 1)), .int (xs (i + 2))]) (rest := []) ⟨hx, hb, hml, hown, hts⟩ (mt_tell l E ym ad L M (xs (i + 1)) (xs (i + 2))) (cwV 2 hts (lw_V q1169 q1170 q1171 q41 q1172) rfl rfl rfl (by decide +kernel) ⟨Nat.le_of_ble_eq_true rfl, Nat.le_of_ble_eq_true rfl⟩) hmz hK.1 hM hL9 hS rfl hl.1 rfl (Nat.le_of_ble_eq_true rfl) dL_law_1225 ⟨(show _ ≤ 1200384 by omega), (show _ ≤ 5490858 by omega)⟩ (fun H locs hM hS hz hk => ?_)
    have hR := hR.kept (fun a ha hlt => hk a hlt (fun z => ha.2 z))
    refine W.eq (g2 := F0 m 1228 ls [.int (mf_tell M (xs (i + 1)) (xs (i + 2))).1]) rfl ?_
    refine lv_istore (lv' := [(6, .int (mf_tell M (xs (i + 1)) (xs (i + 2))).1), (5, .int (nI (ix + 1))), (4, .int (nI i)), (3, .ref o), (2, .ref ym), (1, .ref (g 0 0)), (0, .ref b)]) hx hb dL_law_1228 hl (by decide) rfl (fun ls hl => ?_)
    refine lv_aload_n hx hb dL_law_1230 rfl (lv_at hl 4 rfl) ?_
    refine mr_calli (As := []) (rest := []) ⟨hx, hb, hml, hown, hts⟩ (mt_thrown l E ym ad L (mf_tell M (xs (i + 1)) (xs (i + 2))).2) (cwV 0 hts (lw_V q1067 q1068 q1069 q41 q1070) rfl rfl rfl (by decide +kernel) ⟨Nat.le_of_ble_eq_true rfl, Nat.le_of_ble_eq_true rfl⟩) trivial hK.1 hM hL9 hS rfl hl.1 rfl (Nat.le_of_ble_eq_true rfl) dL_law_1231 ⟨(show _ ≤ 1200384 by omega), (show _ ≤ 5490858 by omega)⟩ (fun H locs hM hS hz hk => ?_)
    have hR := hR.kept (fun a ha hlt => hk a hlt (fun z => ha.2 z))
    refine W.eq (g2 := F0 m 1234 ls [.int (mf_thrown (mf_tell M (xs (i + 1)) (xs (i + 2))).2)]) rfl ?_
    refine lv_iload hx hb dL_law_1234 (lv_at hl 1 rfl) ?_
    refine lv_icmp_eq (tgt := 1241) hx hb dL_law_1236 (by decide) (fun _ => ?_) (fun h => absurd ht h)
    refine lv_iload hx hb dL_law_1241 (lv_at hl 1 rfl) ?_
    refine lv_if_ne (tgt := 1258) hx hb dL_law_1243 (by decide) (fun _ => ?_) (fun h => absurd h (li_n0 (by decide) hix))
    refine lv_goto (tgt := 2388) hx hb dL_law_1258 (by decide) ?_
    refine W.widen (k := cells + 870) (n := slots + 3850) (by omega) (by omega) ?_
    exact kk S (mf_tell M (xs (i + 1)) (xs (i + 2))).2 H locs ls ⟨hCP2, ⟨g, h, v', rfl, hh, hR⟩, hM⟩ hS (lv_sub hl [2, 3, 4, 5, 6] rfl)
  · have hM := hM.kept (fun a ha hlt => hk a hlt (fun z => z.2 ha))
    obtain ⟨ht, hr, hCP2⟩ := hcl.2 r S' hxn
    refine lv_istore (lv' := [(5, .int 0), (4, .int (nI i)), (3, .ref o), (2, .ref ym), (1, .ref (g 0 0)), (0, .ref b)]) hx hb dL_law_1210 hl (by decide) rfl (fun ls hl => ?_)
    refine lv_aload_n hx hb dL_law_1212 rfl (lv_at hl 3 rfl) ?_
    refine lv_aload_n hx hb dL_law_1213 rfl (lv_at hl 5 rfl) ?_
    refine lv_iload hx hb dL_law_1214 (lv_at hl 1 rfl) ?_
    refine lv_iconst (v := nI 1) hx hb dL_law_1216 (by decide) ?_
    refine sc_ld hx hb hX hbl hS (show i + 1 < Ln by omega) hLn dL_law_1217 dL_law_1218 ?_
    refine lv_aload_n hx hb dL_law_1219 rfl (lv_at hl 5 rfl) ?_
    refine lv_iload hx hb dL_law_1220 (lv_at hl 1 rfl) ?_
    refine lv_iconst (v := nI 2) hx hb dL_law_1222 (by decide) ?_
    refine sc_ld hx hb hX hbl hS (show i + 2 < Ln by omega) hLn dL_law_1223 dL_law_1224 ?_
    refine mr_calli (As := [.int (xs (i + 1)), .int (xs (i + 2))]) (rest := []) ⟨hx, hb, hml, hown, hts⟩ (mt_tell l E ym ad L M (xs (i + 1)) (xs (i + 2))) (cwV 2 hts (lw_V q1169 q1170 q1171 q41 q1172) rfl rfl rfl (by decide +kernel) ⟨Nat.le_of_ble_eq_true rfl, Nat.le_of_ble_eq_true rfl⟩) hmz hK.1 hM hL9 hS rfl hl.1 rfl (Nat.le_of_ble_eq_true rfl) dL_law_1225 ⟨(show _ ≤ 1200384 by omega), (show _ ≤ 5490858 by omega)⟩ (fun H locs hM hS hz hk => ?_)
    have hR := hR.kept (fun a ha hlt => hk a hlt (fun z => ha.2 z))
    refine W.eq (g2 := F0 m 1228 ls [.int (mf_tell M (xs (i + 1)) (xs (i + 2))).1]) rfl ?_
    refine lv_istore (lv' := [(6, .int (mf_tell M (xs (i + 1)) (xs (i + 2))).1), (5, .int 0), (4, .int (nI i)), (3, .ref o), (2, .ref ym), (1, .ref (g 0 0)), (0, .ref b)]) hx hb dL_law_1228 hl (by decide) rfl (fun ls hl => ?_)
    refine lv_aload_n hx hb dL_law_1230 rfl (lv_at hl 4 rfl) ?_
    refine mr_calli (As := []) (rest := []) ⟨hx, hb, hml, hown, hts⟩ (mt_thrown l E ym ad L (mf_tell M (xs (i + 1)) (xs (i + 2))).2) (cwV 0 hts (lw_V q1067 q1068 q1069 q41 q1070) rfl rfl rfl (by decide +kernel) ⟨Nat.le_of_ble_eq_true rfl, Nat.le_of_ble_eq_true rfl⟩) trivial hK.1 hM hL9 hS rfl hl.1 rfl (Nat.le_of_ble_eq_true rfl) dL_law_1231 ⟨(show _ ≤ 1200384 by omega), (show _ ≤ 5490858 by omega)⟩ (fun H locs hM hS hz hk => ?_)
    have hR := hR.kept (fun a ha hlt => hk a hlt (fun z => ha.2 z))
    refine W.eq (g2 := F0 m 1234 ls [.int (mf_thrown (mf_tell M (xs (i + 1)) (xs (i + 2))).2)]) rfl ?_
    refine lv_iload hx hb dL_law_1234 (lv_at hl 1 rfl) ?_
    refine lv_icmp_eq (tgt := 1241) hx hb dL_law_1236 (by decide) (fun _ => ?_) (fun h => absurd ht h)
    refine lv_iload hx hb dL_law_1241 (lv_at hl 1 rfl) ?_
    refine lv_if_ne (tgt := 1258) hx hb dL_law_1243 (by decide) (fun h => absurd rfl h) (fun _ => ?_)
    refine lv_aload_n hx hb dL_law_1246 rfl (lv_at hl 3 rfl) ?_
    refine lv_iconst (v := 0) hx hb dL_law_1247 (by decide) ?_
    refine xo_lald hx hb hK.1 hR dL_law_1248 ?_
    refine lv_iload hx hb dL_law_1249 (lv_at hl 0 rfl) ?_
    refine lv_i2l (v := (mf_tell M (xs (i + 1)) (xs (i + 2))).1.toInt64) hx hb dL_law_1251 rfl ?_
    have hvv : v' 0 = (mf_tell M (xs (i + 1)) (xs (i + 2))).1.toInt64 := by rw [hv', hr]
    refine W.eq (g2 := F0 m 1252 ls [.long ((mf_tell M (xs (i + 1)) (xs (i + 2))).1.toInt64), .long ((mf_tell M (xs (i + 1)) (xs (i + 2))).1.toInt64)]) (congrArg (fun z => F0 m 1252 ls [.long ((mf_tell M (xs (i + 1)) (xs (i + 2))).1.toInt64), .long z]) hvv) ?_
    refine lv_lcmpE hx hb dL_law_1252 ?_
    refine lv_if_eq (tgt := 1258) hx hb dL_law_1253 (by decide) (fun _ => ?_) (fun h => absurd rfl h)
    refine lv_goto (tgt := 2388) hx hb dL_law_1258 (by decide) ?_
    refine W.widen (k := cells + 870) (n := slots + 3850) (by omega) (by omega) ?_
    exact kk S' (mf_tell M (xs (i + 1)) (xs (i + 2))).2 H locs ls ⟨hCP2, ⟨g', h', v', hg0, hh', hR⟩, hM⟩ hS (lv_sub hl [2, 3, 4, 5, 6] rfl)
set_option maxHeartbeats 2000000 in
set_option maxRecDepth 100000 in
theorem lc_withdraw {CP : gs_T → gs_T → Prop} (hCPi : ∀ S M, CP S M → xi_ok S ∧ mi_ok M) (hc : ∀ S M (p1 : Int32), CP S M → cl_P CP ["java/lang/IndexOutOfBoundsException", "java/lang/IllegalStateException"] (xp_withdraw S p1) (mf_withdraw M p1).1 (mf_withdraw M p1).2 S) {l : Launch} {p : Program} {e : Env} {s : State} {m : MethodId} {below : List Frame} {meth : Method} {c : Code} {H : Heap} {locs : List Loc} {cells slots : Nat} {Q : State → Prop} {ls : Array Slot} {b Ln i : Nat} {xs : Nat → Int32} {E : en_T} {C : ex_C} {x0 ym o : Nat} {ad : Nat → Nat} {L : List Nat} {S M : gs_T} (hE : le_E l p s m meth c b Ln xs E C ym L) (hi : i + 8 ≤ Ln) (hW : LW CP E C s x0 ym o ad L S M H) (hS : va_S (la_9 s) s.heap H locs) (hl : lv_has ls 7 [(4, .int (nI i)), (3, .ref o), (2, .ref ym), (1, .ref x0), (0, .ref b)]) (hf : cells + 870 ≤ 1200384 ∧ slots + 3850 ≤ 5490858) (kk : ∀ (S' M' : gs_T) (H' : Heap) (locs' : List Loc) (ls' : Array Slot), LW CP E C s x0 ym o ad L S' M' H' → va_S (la_9 s) s.heap H' locs' → lv_has ls' 7 [(4, .int (nI i)), (3, .ref o), (2, .ref ym), (1, .ref x0), (0, .ref b)] → W p l e room_1 s m #[.ref b] below meth c H' locs' (cells + 870) (slots + 3850) Q (F0 m 2388 ls' [])) : W p l e room_1 s m #[.ref b] below meth c H locs cells slots Q (F0 m 1261 ls []) := by
  obtain ⟨hx, hb, hml, hown, hts, hX, hbl, hK, hN, hZ, hfl, hL9, hLn⟩ := hE
  obtain ⟨hCP, ⟨g, h, v, hg0, hh, hR⟩, hM⟩ := hW
  obtain ⟨hI, hmi⟩ := hCPi S M hCP
  subst hg0
  refine lv_aload_n hx hb dL_law_1261 rfl (lv_at hl 3 rfl) ?_
  refine lv_aload_n hx hb dL_law_1262 rfl (lv_at hl 4 rfl) ?_
  refine lv_iload hx hb dL_law_1263 (lv_at hl 0 rfl) ?_
  refine lv_iconst (v := nI 1) hx hb dL_law_1265 (by decide) ?_
  refine sc_ld hx hb hX hbl hS (show i + 1 < Ln by omega) hLn dL_law_1266 dL_law_1267 ?_
  refine lv_aload_n hx hb dL_law_1268 rfl (lv_at hl 1 rfl) ?_
  have hcl := hc S M (xs (i + 1)) hCP
  have hmz : mi_ok M := hmi
  refine ls_S (As := [.ref (g 0 0), .int (xs (i + 1)), .ref o]) (rest := []) hK hN hZ hS (fun _ h => h.1) (la_new hS.1 (mr_lt hM)) hR ⟨hI, hh⟩ (wt_withdraw l hfl E C (la_A s L) H.size g h S o v (xs (i + 1))) ⟨hx, hb, hml, hown, hts⟩ (vx_cwSW 3 hts (lw_SW q770 q771 q32 q772) rfl rfl rfl (by decide +kernel) ⟨Nat.le_of_ble_eq_true rfl, Nat.le_of_ble_eq_true rfl⟩) rfl hl.1 rfl (Nat.le_of_ble_eq_true rfl) dL_law_1269 ⟨(show _ ≤ 1200384 by omega), (show _ ≤ 5490858 by omega)⟩ (fun Xn ix v' H locs hxn hix hR hz hk hS => ?_) (fun r S' g' h' v' H locs hxn hg0 hh' hv' hR hz hk hS => ?_)
  · have hM := hM.kept (fun a ha hlt => hk a hlt (fun z => z.2 ha))
    obtain ⟨j, hj, ht, hCP2⟩ := hcl.1 Xn hxn
    have ej := li_ne (by decide) hix hj
    rw [← ej] at ht
    refine lv_istore (lv' := [(5, .int (nI (ix + 1))), (4, .int (nI i)), (3, .ref o), (2, .ref ym), (1, .ref (g 0 0)), (0, .ref b)]) hx hb dL_law_1272 hl (by decide) rfl (fun ls hl => ?_)
    refine lv_aload_n hx hb dL_law_1274 rfl (lv_at hl 3 rfl) ?_
    refine lv_aload_n hx hb dL_law_1275 rfl (lv_at hl 5 rfl) ?_
    refine lv_iload hx hb dL_law_1276 (lv_at hl 1 rfl) ?_
    refine lv_iconst (v := nI 1) hx hb dL_law_1278 (by decide) ?_
    refine sc_ld hx hb hX hbl hS (show i + 1 < Ln by omega) hLn dL_law_1279 dL_law_1280 ?_
    refine mr_calli (As := [.int (xs (i + 1))]) (rest := []) ⟨hx, hb, hml, hown, hts⟩ (mt_withdraw l E ym ad L M (xs (i + 1))) (cwV 1 hts (lw_V q1173 q1174 q1175 q41 q1176) rfl rfl rfl (by decide +kernel) ⟨Nat.le_of_ble_eq_true rfl, Nat.le_of_ble_eq_true rfl⟩) hmz hK.1 hM hL9 hS rfl hl.1 rfl (Nat.le_of_ble_eq_true rfl) dL_law_1281 ⟨(show _ ≤ 1200384 by omega), (show _ ≤ 5490858 by omega)⟩ (fun H locs hM hS hz hk => ?_)
    have hR := hR.kept (fun a ha hlt => hk a hlt (fun z => ha.2 z))
    refine W.eq (g2 := F0 m 1284 ls [.int (mf_withdraw M (xs (i + 1))).1]) rfl ?_
    refine lv_istore (lv' := [(6, .int (mf_withdraw M (xs (i + 1))).1), (5, .int (nI (ix + 1))), (4, .int (nI i)), (3, .ref o), (2, .ref ym), (1, .ref (g 0 0)), (0, .ref b)]) hx hb dL_law_1284 hl (by decide) rfl (fun ls hl => ?_)
    refine lv_aload_n hx hb dL_law_1286 rfl (lv_at hl 4 rfl) ?_
    refine mr_calli (As := []) (rest := []) ⟨hx, hb, hml, hown, hts⟩ (mt_thrown l E ym ad L (mf_withdraw M (xs (i + 1))).2) (cwV 0 hts (lw_V q1067 q1068 q1069 q41 q1070) rfl rfl rfl (by decide +kernel) ⟨Nat.le_of_ble_eq_true rfl, Nat.le_of_ble_eq_true rfl⟩) trivial hK.1 hM hL9 hS rfl hl.1 rfl (Nat.le_of_ble_eq_true rfl) dL_law_1287 ⟨(show _ ≤ 1200384 by omega), (show _ ≤ 5490858 by omega)⟩ (fun H locs hM hS hz hk => ?_)
    have hR := hR.kept (fun a ha hlt => hk a hlt (fun z => ha.2 z))
    refine W.eq (g2 := F0 m 1290 ls [.int (mf_thrown (mf_withdraw M (xs (i + 1))).2)]) rfl ?_
    refine lv_iload hx hb dL_law_1290 (lv_at hl 1 rfl) ?_
    refine lv_icmp_eq (tgt := 1297) hx hb dL_law_1292 (by decide) (fun _ => ?_) (fun h => absurd ht h)
    refine lv_iload hx hb dL_law_1297 (lv_at hl 1 rfl) ?_
    refine lv_if_ne (tgt := 1314) hx hb dL_law_1299 (by decide) (fun _ => ?_) (fun h => absurd h (li_n0 (by decide) hix))
    refine lv_goto (tgt := 2388) hx hb dL_law_1314 (by decide) ?_
    refine W.widen (k := cells + 870) (n := slots + 3850) (by omega) (by omega) ?_
    exact kk S (mf_withdraw M (xs (i + 1))).2 H locs ls ⟨hCP2, ⟨g, h, v', rfl, hh, hR⟩, hM⟩ hS (lv_sub hl [2, 3, 4, 5, 6] rfl)
  · have hM := hM.kept (fun a ha hlt => hk a hlt (fun z => z.2 ha))
    obtain ⟨ht, hr, hCP2⟩ := hcl.2 r S' hxn
    refine lv_istore (lv' := [(5, .int 0), (4, .int (nI i)), (3, .ref o), (2, .ref ym), (1, .ref (g 0 0)), (0, .ref b)]) hx hb dL_law_1272 hl (by decide) rfl (fun ls hl => ?_)
    refine lv_aload_n hx hb dL_law_1274 rfl (lv_at hl 3 rfl) ?_
    refine lv_aload_n hx hb dL_law_1275 rfl (lv_at hl 5 rfl) ?_
    refine lv_iload hx hb dL_law_1276 (lv_at hl 1 rfl) ?_
    refine lv_iconst (v := nI 1) hx hb dL_law_1278 (by decide) ?_
    refine sc_ld hx hb hX hbl hS (show i + 1 < Ln by omega) hLn dL_law_1279 dL_law_1280 ?_
    refine mr_calli (As := [.int (xs (i + 1))]) (rest := []) ⟨hx, hb, hml, hown, hts⟩ (mt_withdraw l E ym ad L M (xs (i + 1))) (cwV 1 hts (lw_V q1173 q1174 q1175 q41 q1176) rfl rfl rfl (by decide +kernel) ⟨Nat.le_of_ble_eq_true rfl, Nat.le_of_ble_eq_true rfl⟩) hmz hK.1 hM hL9 hS rfl hl.1 rfl (Nat.le_of_ble_eq_true rfl) dL_law_1281 ⟨(show _ ≤ 1200384 by omega), (show _ ≤ 5490858 by omega)⟩ (fun H locs hM hS hz hk => ?_)
    have hR := hR.kept (fun a ha hlt => hk a hlt (fun z => ha.2 z))
    refine W.eq (g2 := F0 m 1284 ls [.int (mf_withdraw M (xs (i + 1))).1]) rfl ?_
    refine lv_istore (lv' := [(6, .int (mf_withdraw M (xs (i + 1))).1), (5, .int 0), (4, .int (nI i)), (3, .ref o), (2, .ref ym), (1, .ref (g 0 0)), (0, .ref b)]) hx hb dL_law_1284 hl (by decide) rfl (fun ls hl => ?_)
    refine lv_aload_n hx hb dL_law_1286 rfl (lv_at hl 4 rfl) ?_
    refine mr_calli (As := []) (rest := []) ⟨hx, hb, hml, hown, hts⟩ (mt_thrown l E ym ad L (mf_withdraw M (xs (i + 1))).2) (cwV 0 hts (lw_V q1067 q1068 q1069 q41 q1070) rfl rfl rfl (by decide +kernel) ⟨Nat.le_of_ble_eq_true rfl, Nat.le_of_ble_eq_true rfl⟩) trivial hK.1 hM hL9 hS rfl hl.1 rfl (Nat.le_of_ble_eq_true rfl) dL_law_1287 ⟨(show _ ≤ 1200384 by omega), (show _ ≤ 5490858 by omega)⟩ (fun H locs hM hS hz hk => ?_)
    have hR := hR.kept (fun a ha hlt => hk a hlt (fun z => ha.2 z))
    refine W.eq (g2 := F0 m 1290 ls [.int (mf_thrown (mf_withdraw M (xs (i + 1))).2)]) rfl ?_
    refine lv_iload hx hb dL_law_1290 (lv_at hl 1 rfl) ?_
    refine lv_icmp_eq (tgt := 1297) hx hb dL_law_1292 (by decide) (fun _ => ?_) (fun h => absurd ht h)
    refine lv_iload hx hb dL_law_1297 (lv_at hl 1 rfl) ?_
    refine lv_if_ne (tgt := 1314) hx hb dL_law_1299 (by decide) (fun h => absurd rfl h) (fun _ => ?_)
    refine lv_aload_n hx hb dL_law_1302 rfl (lv_at hl 3 rfl) ?_
    refine lv_iconst (v := 0) hx hb dL_law_1303 (by decide) ?_
    refine xo_lald hx hb hK.1 hR dL_law_1304 ?_
    refine lv_iload hx hb dL_law_1305 (lv_at hl 0 rfl) ?_
    refine lv_i2l (v := (mf_withdraw M (xs (i + 1))).1.toInt64) hx hb dL_law_1307 rfl ?_
    have hvv : v' 0 = (mf_withdraw M (xs (i + 1))).1.toInt64 := by rw [hv', hr]
    refine W.eq (g2 := F0 m 1308 ls [.long ((mf_withdraw M (xs (i + 1))).1.toInt64), .long ((mf_withdraw M (xs (i + 1))).1.toInt64)]) (congrArg (fun z => F0 m 1308 ls [.long ((mf_withdraw M (xs (i + 1))).1.toInt64), .long z]) hvv) ?_
    refine lv_lcmpE hx hb dL_law_1308 ?_
    refine lv_if_eq (tgt := 1314) hx hb dL_law_1309 (by decide) (fun _ => ?_) (fun h => absurd rfl h)
    refine lv_goto (tgt := 2388) hx hb dL_law_1314 (by decide) ?_
    refine W.widen (k := cells + 870) (n := slots + 3850) (by omega) (by omega) ?_
    exact kk S' (mf_withdraw M (xs (i + 1))).2 H locs ls ⟨hCP2, ⟨g', h', v', hg0, hh', hR⟩, hM⟩ hS (lv_sub hl [2, 3, 4, 5, 6] rfl)
set_option maxHeartbeats 2000000 in
set_option maxRecDepth 100000 in
theorem lc_release {CP : gs_T → gs_T → Prop} (hCPi : ∀ S M, CP S M → xi_ok S ∧ mi_ok M) (hc : ∀ S M (p1 : Int32) (p2 : Int32), CP S M → cl_P CP ["java/lang/IndexOutOfBoundsException", "java/lang/IllegalStateException"] (xp_release S p1 p2) (mf_release M p1 p2).1 (mf_release M p1 p2).2 S) {l : Launch} {p : Program} {e : Env} {s : State} {m : MethodId} {below : List Frame} {meth : Method} {c : Code} {H : Heap} {locs : List Loc} {cells slots : Nat} {Q : State → Prop} {ls : Array Slot} {b Ln i : Nat} {xs : Nat → Int32} {E : en_T} {C : ex_C} {x0 ym o : Nat} {ad : Nat → Nat} {L : List Nat} {S M : gs_T} (hE : le_E l p s m meth c b Ln xs E C ym L) (hi : i + 8 ≤ Ln) (hW : LW CP E C s x0 ym o ad L S M H) (hS : va_S (la_9 s) s.heap H locs) (hl : lv_has ls 7 [(4, .int (nI i)), (3, .ref o), (2, .ref ym), (1, .ref x0), (0, .ref b)]) (hf : cells + 870 ≤ 1200384 ∧ slots + 3850 ≤ 5490858) (kk : ∀ (S' M' : gs_T) (H' : Heap) (locs' : List Loc) (ls' : Array Slot), LW CP E C s x0 ym o ad L S' M' H' → va_S (la_9 s) s.heap H' locs' → lv_has ls' 7 [(4, .int (nI i)), (3, .ref o), (2, .ref ym), (1, .ref x0), (0, .ref b)] → W p l e room_1 s m #[.ref b] below meth c H' locs' (cells + 870) (slots + 3850) Q (F0 m 2388 ls' [])) : W p l e room_1 s m #[.ref b] below meth c H locs cells slots Q (F0 m 1317 ls []) := by
  obtain ⟨hx, hb, hml, hown, hts, hX, hbl, hK, hN, hZ, hfl, hL9, hLn⟩ := hE
  obtain ⟨hCP, ⟨g, h, v, hg0, hh, hR⟩, hM⟩ := hW
  obtain ⟨hI, hmi⟩ := hCPi S M hCP
  subst hg0
  refine lv_aload_n hx hb dL_law_1317 rfl (lv_at hl 3 rfl) ?_
  refine lv_aload_n hx hb dL_law_1318 rfl (lv_at hl 4 rfl) ?_
  refine lv_iload hx hb dL_law_1319 (lv_at hl 0 rfl) ?_
  refine lv_iconst (v := nI 1) hx hb dL_law_1321 (by decide) ?_
  refine sc_ld hx hb hX hbl hS (show i + 1 < Ln by omega) hLn dL_law_1322 dL_law_1323 ?_
  refine lv_aload_n hx hb dL_law_1324 rfl (lv_at hl 4 rfl) ?_
  refine lv_iload hx hb dL_law_1325 (lv_at hl 0 rfl) ?_
  refine lv_iconst (v := nI 2) hx hb dL_law_1327 (by decide) ?_
  refine sc_ld hx hb hX hbl hS (show i + 2 < Ln by omega) hLn dL_law_1328 dL_law_1329 ?_
  refine lv_aload_n hx hb dL_law_1330 rfl (lv_at hl 1 rfl) ?_
  have hcl := hc S M (xs (i + 1)) (xs (i + 2)) hCP
  have hmz : mi_ok M := hmi
  refine ls_S (As := [.ref (g 0 0), .int (xs (i + 1)), .int (xs (i + 2)), .ref o]) (rest := []) hK hN hZ hS (fun _ h => h.1) (la_new hS.1 (mr_lt hM)) hR ⟨hI, hh⟩ (wt_release l hfl E C (la_A s L) H.size g h S o v (xs (i + 1)) (xs (i + 2))) ⟨hx, hb, hml, hown, hts⟩ (vx_cwSW 4 hts (lw_SW q781 q782 q32 q783) rfl rfl rfl (by decide +kernel) ⟨Nat.le_of_ble_eq_true rfl, Nat.le_of_ble_eq_true rfl⟩) rfl hl.1 rfl (Nat.le_of_ble_eq_true rfl) dL_law_1331 ⟨(show _ ≤ 1200384 by omega), (show _ ≤ 5490858 by omega)⟩ (fun Xn ix v' H locs hxn hix hR hz hk hS => ?_) (fun r S' g' h' v' H locs hxn hg0 hh' hv' hR hz hk hS => ?_)
  · have hM := hM.kept (fun a ha hlt => hk a hlt (fun z => z.2 ha))
    obtain ⟨j, hj, ht, hCP2⟩ := hcl.1 Xn hxn
    have ej := li_ne (by decide) hix hj
    rw [← ej] at ht
    refine lv_istore (lv' := [(5, .int (nI (ix + 1))), (4, .int (nI i)), (3, .ref o), (2, .ref ym), (1, .ref (g 0 0)), (0, .ref b)]) hx hb dL_law_1334 hl (by decide) rfl (fun ls hl => ?_)
    refine lv_aload_n hx hb dL_law_1336 rfl (lv_at hl 3 rfl) ?_
    refine lv_aload_n hx hb dL_law_1337 rfl (lv_at hl 5 rfl) ?_
    refine lv_iload hx hb dL_law_1338 (lv_at hl 1 rfl) ?_
    refine lv_iconst (v := nI 1) hx hb dL_law_1340 (by decide) ?_
    refine sc_ld hx hb hX hbl hS (show i + 1 < Ln by omega) hLn dL_law_1341 dL_law_1342 ?_
    refine lv_aload_n hx hb dL_law_1343 rfl (lv_at hl 5 rfl) ?_
    refine lv_iload hx hb dL_law_1344 (lv_at hl 1 rfl) ?_
    refine lv_iconst (v := nI 2) hx hb dL_law_1346 (by decide) ?_
    refine sc_ld hx hb hX hbl hS (show i + 2 < Ln by omega) hLn dL_law_1347 dL_law_1348 ?_
    refine mr_calli (As := [.int (xs (i + 1)), .int (xs (i + 2))]) (rest := []) ⟨hx, hb, hml, hown, hts⟩ (mt_release l E ym ad L M (xs (i + 1)) (xs (i + 2))) (cwV 2 hts (lw_V q1181 q1182 q1183 q41 q1184) rfl rfl rfl (by decide +kernel) ⟨Nat.le_of_ble_eq_true rfl, Nat.le_of_ble_eq_true rfl⟩) hmz hK.1 hM hL9 hS rfl hl.1 rfl (Nat.le_of_ble_eq_true rfl) dL_law_1349 ⟨(show _ ≤ 1200384 by omega), (show _ ≤ 5490858 by omega)⟩ (fun H locs hM hS hz hk => ?_)
    have hR := hR.kept (fun a ha hlt => hk a hlt (fun z => ha.2 z))
    refine W.eq (g2 := F0 m 1352 ls [.int (mf_release M (xs (i + 1)) (xs (i + 2))).1]) rfl ?_
    refine lv_istore (lv' := [(6, .int (mf_release M (xs (i + 1)) (xs (i + 2))).1), (5, .int (nI (ix + 1))), (4, .int (nI i)), (3, .ref o), (2, .ref ym), (1, .ref (g 0 0)), (0, .ref b)]) hx hb dL_law_1352 hl (by decide) rfl (fun ls hl => ?_)
    refine lv_aload_n hx hb dL_law_1354 rfl (lv_at hl 4 rfl) ?_
    refine mr_calli (As := []) (rest := []) ⟨hx, hb, hml, hown, hts⟩ (mt_thrown l E ym ad L (mf_release M (xs (i + 1)) (xs (i + 2))).2) (cwV 0 hts (lw_V q1067 q1068 q1069 q41 q1070) rfl rfl rfl (by decide +kernel) ⟨Nat.le_of_ble_eq_true rfl, Nat.le_of_ble_eq_true rfl⟩) trivial hK.1 hM hL9 hS rfl hl.1 rfl (Nat.le_of_ble_eq_true rfl) dL_law_1355 ⟨(show _ ≤ 1200384 by omega), (show _ ≤ 5490858 by omega)⟩ (fun H locs hM hS hz hk => ?_)
    have hR := hR.kept (fun a ha hlt => hk a hlt (fun z => ha.2 z))
    refine W.eq (g2 := F0 m 1358 ls [.int (mf_thrown (mf_release M (xs (i + 1)) (xs (i + 2))).2)]) rfl ?_
    refine lv_iload hx hb dL_law_1358 (lv_at hl 1 rfl) ?_
    refine lv_icmp_eq (tgt := 1365) hx hb dL_law_1360 (by decide) (fun _ => ?_) (fun h => absurd ht h)
    refine lv_iload hx hb dL_law_1365 (lv_at hl 1 rfl) ?_
    refine lv_if_ne (tgt := 1382) hx hb dL_law_1367 (by decide) (fun _ => ?_) (fun h => absurd h (li_n0 (by decide) hix))
    refine lv_goto (tgt := 2388) hx hb dL_law_1382 (by decide) ?_
    refine W.widen (k := cells + 870) (n := slots + 3850) (by omega) (by omega) ?_
    exact kk S (mf_release M (xs (i + 1)) (xs (i + 2))).2 H locs ls ⟨hCP2, ⟨g, h, v', rfl, hh, hR⟩, hM⟩ hS (lv_sub hl [2, 3, 4, 5, 6] rfl)
  · have hM := hM.kept (fun a ha hlt => hk a hlt (fun z => z.2 ha))
    obtain ⟨ht, hr, hCP2⟩ := hcl.2 r S' hxn
    refine lv_istore (lv' := [(5, .int 0), (4, .int (nI i)), (3, .ref o), (2, .ref ym), (1, .ref (g 0 0)), (0, .ref b)]) hx hb dL_law_1334 hl (by decide) rfl (fun ls hl => ?_)
    refine lv_aload_n hx hb dL_law_1336 rfl (lv_at hl 3 rfl) ?_
    refine lv_aload_n hx hb dL_law_1337 rfl (lv_at hl 5 rfl) ?_
    refine lv_iload hx hb dL_law_1338 (lv_at hl 1 rfl) ?_
    refine lv_iconst (v := nI 1) hx hb dL_law_1340 (by decide) ?_
    refine sc_ld hx hb hX hbl hS (show i + 1 < Ln by omega) hLn dL_law_1341 dL_law_1342 ?_
    refine lv_aload_n hx hb dL_law_1343 rfl (lv_at hl 5 rfl) ?_
    refine lv_iload hx hb dL_law_1344 (lv_at hl 1 rfl) ?_
    refine lv_iconst (v := nI 2) hx hb dL_law_1346 (by decide) ?_
    refine sc_ld hx hb hX hbl hS (show i + 2 < Ln by omega) hLn dL_law_1347 dL_law_1348 ?_
    refine mr_calli (As := [.int (xs (i + 1)), .int (xs (i + 2))]) (rest := []) ⟨hx, hb, hml, hown, hts⟩ (mt_release l E ym ad L M (xs (i + 1)) (xs (i + 2))) (cwV 2 hts (lw_V q1181 q1182 q1183 q41 q1184) rfl rfl rfl (by decide +kernel) ⟨Nat.le_of_ble_eq_true rfl, Nat.le_of_ble_eq_true rfl⟩) hmz hK.1 hM hL9 hS rfl hl.1 rfl (Nat.le_of_ble_eq_true rfl) dL_law_1349 ⟨(show _ ≤ 1200384 by omega), (show _ ≤ 5490858 by omega)⟩ (fun H locs hM hS hz hk => ?_)
    have hR := hR.kept (fun a ha hlt => hk a hlt (fun z => ha.2 z))
    refine W.eq (g2 := F0 m 1352 ls [.int (mf_release M (xs (i + 1)) (xs (i + 2))).1]) rfl ?_
    refine lv_istore (lv' := [(6, .int (mf_release M (xs (i + 1)) (xs (i + 2))).1), (5, .int 0), (4, .int (nI i)), (3, .ref o), (2, .ref ym), (1, .ref (g 0 0)), (0, .ref b)]) hx hb dL_law_1352 hl (by decide) rfl (fun ls hl => ?_)
    refine lv_aload_n hx hb dL_law_1354 rfl (lv_at hl 4 rfl) ?_
    refine mr_calli (As := []) (rest := []) ⟨hx, hb, hml, hown, hts⟩ (mt_thrown l E ym ad L (mf_release M (xs (i + 1)) (xs (i + 2))).2) (cwV 0 hts (lw_V q1067 q1068 q1069 q41 q1070) rfl rfl rfl (by decide +kernel) ⟨Nat.le_of_ble_eq_true rfl, Nat.le_of_ble_eq_true rfl⟩) trivial hK.1 hM hL9 hS rfl hl.1 rfl (Nat.le_of_ble_eq_true rfl) dL_law_1355 ⟨(show _ ≤ 1200384 by omega), (show _ ≤ 5490858 by omega)⟩ (fun H locs hM hS hz hk => ?_)
    have hR := hR.kept (fun a ha hlt => hk a hlt (fun z => ha.2 z))
    refine W.eq (g2 := F0 m 1358 ls [.int (mf_thrown (mf_release M (xs (i + 1)) (xs (i + 2))).2)]) rfl ?_
    refine lv_iload hx hb dL_law_1358 (lv_at hl 1 rfl) ?_
    refine lv_icmp_eq (tgt := 1365) hx hb dL_law_1360 (by decide) (fun _ => ?_) (fun h => absurd ht h)
    refine lv_iload hx hb dL_law_1365 (lv_at hl 1 rfl) ?_
    refine lv_if_ne (tgt := 1382) hx hb dL_law_1367 (by decide) (fun h => absurd rfl h) (fun _ => ?_)
    refine lv_aload_n hx hb dL_law_1370 rfl (lv_at hl 3 rfl) ?_
    refine lv_iconst (v := 0) hx hb dL_law_1371 (by decide) ?_
    refine xo_lald hx hb hK.1 hR dL_law_1372 ?_
    refine lv_iload hx hb dL_law_1373 (lv_at hl 0 rfl) ?_
    refine lv_i2l (v := (mf_release M (xs (i + 1)) (xs (i + 2))).1.toInt64) hx hb dL_law_1375 rfl ?_
    have hvv : v' 0 = (mf_release M (xs (i + 1)) (xs (i + 2))).1.toInt64 := by rw [hv', hr]
    refine W.eq (g2 := F0 m 1376 ls [.long ((mf_release M (xs (i + 1)) (xs (i + 2))).1.toInt64), .long ((mf_release M (xs (i + 1)) (xs (i + 2))).1.toInt64)]) (congrArg (fun z => F0 m 1376 ls [.long ((mf_release M (xs (i + 1)) (xs (i + 2))).1.toInt64), .long z]) hvv) ?_
    refine lv_lcmpE hx hb dL_law_1376 ?_
    refine lv_if_eq (tgt := 1382) hx hb dL_law_1377 (by decide) (fun _ => ?_) (fun h => absurd rfl h)
    refine lv_goto (tgt := 2388) hx hb dL_law_1382 (by decide) ?_
    refine W.widen (k := cells + 870) (n := slots + 3850) (by omega) (by omega) ?_
    exact kk S' (mf_release M (xs (i + 1)) (xs (i + 2))).2 H locs ls ⟨hCP2, ⟨g', h', v', hg0, hh', hR⟩, hM⟩ hS (lv_sub hl [2, 3, 4, 5, 6] rfl)
set_option maxHeartbeats 2000000 in
set_option maxRecDepth 100000 in
theorem lc_extend {CP : gs_T → gs_T → Prop} (hCPi : ∀ S M, CP S M → xi_ok S ∧ mi_ok M) (hc : ∀ S M (p1 : Int32) (p2 : Int32), CP S M → cl_P CP ["java/lang/IndexOutOfBoundsException", "java/lang/IllegalArgumentException", "java/lang/IllegalStateException"] (xp_extend S p1 p2) (mf_extend M p1 p2).1 (mf_extend M p1 p2).2 S) {l : Launch} {p : Program} {e : Env} {s : State} {m : MethodId} {below : List Frame} {meth : Method} {c : Code} {H : Heap} {locs : List Loc} {cells slots : Nat} {Q : State → Prop} {ls : Array Slot} {b Ln i : Nat} {xs : Nat → Int32} {E : en_T} {C : ex_C} {x0 ym o : Nat} {ad : Nat → Nat} {L : List Nat} {S M : gs_T} (hE : le_E l p s m meth c b Ln xs E C ym L) (hi : i + 8 ≤ Ln) (hW : LW CP E C s x0 ym o ad L S M H) (hS : va_S (la_9 s) s.heap H locs) (hl : lv_has ls 7 [(4, .int (nI i)), (3, .ref o), (2, .ref ym), (1, .ref x0), (0, .ref b)]) (hf : cells + 870 ≤ 1200384 ∧ slots + 3850 ≤ 5490858) (kk : ∀ (S' M' : gs_T) (H' : Heap) (locs' : List Loc) (ls' : Array Slot), LW CP E C s x0 ym o ad L S' M' H' → va_S (la_9 s) s.heap H' locs' → lv_has ls' 7 [(4, .int (nI i)), (3, .ref o), (2, .ref ym), (1, .ref x0), (0, .ref b)] → W p l e room_1 s m #[.ref b] below meth c H' locs' (cells + 870) (slots + 3850) Q (F0 m 2388 ls' [])) : W p l e room_1 s m #[.ref b] below meth c H locs cells slots Q (F0 m 1385 ls []) := by
  obtain ⟨hx, hb, hml, hown, hts, hX, hbl, hK, hN, hZ, hfl, hL9, hLn⟩ := hE
  obtain ⟨hCP, ⟨g, h, v, hg0, hh, hR⟩, hM⟩ := hW
  obtain ⟨hI, hmi⟩ := hCPi S M hCP
  subst hg0
  refine lv_aload_n hx hb dL_law_1385 rfl (lv_at hl 3 rfl) ?_
  refine lv_aload_n hx hb dL_law_1386 rfl (lv_at hl 4 rfl) ?_
  refine lv_iload hx hb dL_law_1387 (lv_at hl 0 rfl) ?_
  refine lv_iconst (v := nI 1) hx hb dL_law_1389 (by decide) ?_
  refine sc_ld hx hb hX hbl hS (show i + 1 < Ln by omega) hLn dL_law_1390 dL_law_1391 ?_
  refine lv_aload_n hx hb dL_law_1392 rfl (lv_at hl 4 rfl) ?_
  refine lv_iload hx hb dL_law_1393 (lv_at hl 0 rfl) ?_
  refine lv_iconst (v := nI 2) hx hb dL_law_1395 (by decide) ?_
  refine sc_ld hx hb hX hbl hS (show i + 2 < Ln by omega) hLn dL_law_1396 dL_law_1397 ?_
  refine lv_aload_n hx hb dL_law_1398 rfl (lv_at hl 1 rfl) ?_
  have hcl := hc S M (xs (i + 1)) (xs (i + 2)) hCP
  have hmz : mi_ok M := hmi
  refine ls_S (As := [.ref (g 0 0), .int (xs (i + 1)), .int (xs (i + 2)), .ref o]) (rest := []) hK hN hZ hS (fun _ h => h.1) (la_new hS.1 (mr_lt hM)) hR ⟨hI, hh⟩ (wt_extend l hfl E C (la_A s L) H.size g h S o v (xs (i + 1)) (xs (i + 2))) ⟨hx, hb, hml, hown, hts⟩ (vx_cwSW 4 hts (lw_SW q819 q820 q32 q821) rfl rfl rfl (by decide +kernel) ⟨Nat.le_of_ble_eq_true rfl, Nat.le_of_ble_eq_true rfl⟩) rfl hl.1 rfl (Nat.le_of_ble_eq_true rfl) dL_law_1399 ⟨(show _ ≤ 1200384 by omega), (show _ ≤ 5490858 by omega)⟩ (fun Xn ix v' H locs hxn hix hR hz hk hS => ?_) (fun r S' g' h' v' H locs hxn hg0 hh' hv' hR hz hk hS => ?_)
  · have hM := hM.kept (fun a ha hlt => hk a hlt (fun z => z.2 ha))
    obtain ⟨j, hj, ht, hCP2⟩ := hcl.1 Xn hxn
    have ej := li_ne (by decide) hix hj
    rw [← ej] at ht
    refine lv_istore (lv' := [(5, .int (nI (ix + 1))), (4, .int (nI i)), (3, .ref o), (2, .ref ym), (1, .ref (g 0 0)), (0, .ref b)]) hx hb dL_law_1402 hl (by decide) rfl (fun ls hl => ?_)
    refine lv_aload_n hx hb dL_law_1404 rfl (lv_at hl 3 rfl) ?_
    refine lv_aload_n hx hb dL_law_1405 rfl (lv_at hl 5 rfl) ?_
    refine lv_iload hx hb dL_law_1406 (lv_at hl 1 rfl) ?_
    refine lv_iconst (v := nI 1) hx hb dL_law_1408 (by decide) ?_
    refine sc_ld hx hb hX hbl hS (show i + 1 < Ln by omega) hLn dL_law_1409 dL_law_1410 ?_
    refine lv_aload_n hx hb dL_law_1411 rfl (lv_at hl 5 rfl) ?_
    refine lv_iload hx hb dL_law_1412 (lv_at hl 1 rfl) ?_
    refine lv_iconst (v := nI 2) hx hb dL_law_1414 (by decide) ?_
    refine sc_ld hx hb hX hbl hS (show i + 2 < Ln by omega) hLn dL_law_1415 dL_law_1416 ?_
    refine mr_calli (As := [.int (xs (i + 1)), .int (xs (i + 2))]) (rest := []) ⟨hx, hb, hml, hown, hts⟩ (mt_extend l E ym ad L M (xs (i + 1)) (xs (i + 2))) (cwV 2 hts (lw_V q1209 q1210 q1211 q41 q1212) rfl rfl rfl (by decide +kernel) ⟨Nat.le_of_ble_eq_true rfl, Nat.le_of_ble_eq_true rfl⟩) hmz hK.1 hM hL9 hS rfl hl.1 rfl (Nat.le_of_ble_eq_true rfl) dL_law_1417 ⟨(show _ ≤ 1200384 by omega), (show _ ≤ 5490858 by omega)⟩ (fun H locs hM hS hz hk => ?_)
    have hR := hR.kept (fun a ha hlt => hk a hlt (fun z => ha.2 z))
    refine W.eq (g2 := F0 m 1420 ls [.int (mf_extend M (xs (i + 1)) (xs (i + 2))).1]) rfl ?_
    refine lv_istore (lv' := [(6, .int (mf_extend M (xs (i + 1)) (xs (i + 2))).1), (5, .int (nI (ix + 1))), (4, .int (nI i)), (3, .ref o), (2, .ref ym), (1, .ref (g 0 0)), (0, .ref b)]) hx hb dL_law_1420 hl (by decide) rfl (fun ls hl => ?_)
    refine lv_aload_n hx hb dL_law_1422 rfl (lv_at hl 4 rfl) ?_
    refine mr_calli (As := []) (rest := []) ⟨hx, hb, hml, hown, hts⟩ (mt_thrown l E ym ad L (mf_extend M (xs (i + 1)) (xs (i + 2))).2) (cwV 0 hts (lw_V q1067 q1068 q1069 q41 q1070) rfl rfl rfl (by decide +kernel) ⟨Nat.le_of_ble_eq_true rfl, Nat.le_of_ble_eq_true rfl⟩) trivial hK.1 hM hL9 hS rfl hl.1 rfl (Nat.le_of_ble_eq_true rfl) dL_law_1423 ⟨(show _ ≤ 1200384 by omega), (show _ ≤ 5490858 by omega)⟩ (fun H locs hM hS hz hk => ?_)
    have hR := hR.kept (fun a ha hlt => hk a hlt (fun z => ha.2 z))
    refine W.eq (g2 := F0 m 1426 ls [.int (mf_thrown (mf_extend M (xs (i + 1)) (xs (i + 2))).2)]) rfl ?_
    refine lv_iload hx hb dL_law_1426 (lv_at hl 1 rfl) ?_
    refine lv_icmp_eq (tgt := 1433) hx hb dL_law_1428 (by decide) (fun _ => ?_) (fun h => absurd ht h)
    refine lv_iload hx hb dL_law_1433 (lv_at hl 1 rfl) ?_
    refine lv_if_ne (tgt := 1450) hx hb dL_law_1435 (by decide) (fun _ => ?_) (fun h => absurd h (li_n0 (by decide) hix))
    refine lv_goto (tgt := 2388) hx hb dL_law_1450 (by decide) ?_
    refine W.widen (k := cells + 870) (n := slots + 3850) (by omega) (by omega) ?_
    exact kk S (mf_extend M (xs (i + 1)) (xs (i + 2))).2 H locs ls ⟨hCP2, ⟨g, h, v', rfl, hh, hR⟩, hM⟩ hS (lv_sub hl [2, 3, 4, 5, 6] rfl)
  · have hM := hM.kept (fun a ha hlt => hk a hlt (fun z => z.2 ha))
    obtain ⟨ht, hr, hCP2⟩ := hcl.2 r S' hxn
    refine lv_istore (lv' := [(5, .int 0), (4, .int (nI i)), (3, .ref o), (2, .ref ym), (1, .ref (g 0 0)), (0, .ref b)]) hx hb dL_law_1402 hl (by decide) rfl (fun ls hl => ?_)
    refine lv_aload_n hx hb dL_law_1404 rfl (lv_at hl 3 rfl) ?_
    refine lv_aload_n hx hb dL_law_1405 rfl (lv_at hl 5 rfl) ?_
    refine lv_iload hx hb dL_law_1406 (lv_at hl 1 rfl) ?_
    refine lv_iconst (v := nI 1) hx hb dL_law_1408 (by decide) ?_
    refine sc_ld hx hb hX hbl hS (show i + 1 < Ln by omega) hLn dL_law_1409 dL_law_1410 ?_
    refine lv_aload_n hx hb dL_law_1411 rfl (lv_at hl 5 rfl) ?_
    refine lv_iload hx hb dL_law_1412 (lv_at hl 1 rfl) ?_
    refine lv_iconst (v := nI 2) hx hb dL_law_1414 (by decide) ?_
    refine sc_ld hx hb hX hbl hS (show i + 2 < Ln by omega) hLn dL_law_1415 dL_law_1416 ?_
    refine mr_calli (As := [.int (xs (i + 1)), .int (xs (i + 2))]) (rest := []) ⟨hx, hb, hml, hown, hts⟩ (mt_extend l E ym ad L M (xs (i + 1)) (xs (i + 2))) (cwV 2 hts (lw_V q1209 q1210 q1211 q41 q1212) rfl rfl rfl (by decide +kernel) ⟨Nat.le_of_ble_eq_true rfl, Nat.le_of_ble_eq_true rfl⟩) hmz hK.1 hM hL9 hS rfl hl.1 rfl (Nat.le_of_ble_eq_true rfl) dL_law_1417 ⟨(show _ ≤ 1200384 by omega), (show _ ≤ 5490858 by omega)⟩ (fun H locs hM hS hz hk => ?_)
    have hR := hR.kept (fun a ha hlt => hk a hlt (fun z => ha.2 z))
    refine W.eq (g2 := F0 m 1420 ls [.int (mf_extend M (xs (i + 1)) (xs (i + 2))).1]) rfl ?_
    refine lv_istore (lv' := [(6, .int (mf_extend M (xs (i + 1)) (xs (i + 2))).1), (5, .int 0), (4, .int (nI i)), (3, .ref o), (2, .ref ym), (1, .ref (g 0 0)), (0, .ref b)]) hx hb dL_law_1420 hl (by decide) rfl (fun ls hl => ?_)
    refine lv_aload_n hx hb dL_law_1422 rfl (lv_at hl 4 rfl) ?_
    refine mr_calli (As := []) (rest := []) ⟨hx, hb, hml, hown, hts⟩ (mt_thrown l E ym ad L (mf_extend M (xs (i + 1)) (xs (i + 2))).2) (cwV 0 hts (lw_V q1067 q1068 q1069 q41 q1070) rfl rfl rfl (by decide +kernel) ⟨Nat.le_of_ble_eq_true rfl, Nat.le_of_ble_eq_true rfl⟩) trivial hK.1 hM hL9 hS rfl hl.1 rfl (Nat.le_of_ble_eq_true rfl) dL_law_1423 ⟨(show _ ≤ 1200384 by omega), (show _ ≤ 5490858 by omega)⟩ (fun H locs hM hS hz hk => ?_)
    have hR := hR.kept (fun a ha hlt => hk a hlt (fun z => ha.2 z))
    refine W.eq (g2 := F0 m 1426 ls [.int (mf_thrown (mf_extend M (xs (i + 1)) (xs (i + 2))).2)]) rfl ?_
    refine lv_iload hx hb dL_law_1426 (lv_at hl 1 rfl) ?_
    refine lv_icmp_eq (tgt := 1433) hx hb dL_law_1428 (by decide) (fun _ => ?_) (fun h => absurd ht h)
    refine lv_iload hx hb dL_law_1433 (lv_at hl 1 rfl) ?_
    refine lv_if_ne (tgt := 1450) hx hb dL_law_1435 (by decide) (fun h => absurd rfl h) (fun _ => ?_)
    refine lv_aload_n hx hb dL_law_1438 rfl (lv_at hl 3 rfl) ?_
    refine lv_iconst (v := 0) hx hb dL_law_1439 (by decide) ?_
    refine xo_lald hx hb hK.1 hR dL_law_1440 ?_
    refine lv_iload hx hb dL_law_1441 (lv_at hl 0 rfl) ?_
    refine lv_i2l (v := (mf_extend M (xs (i + 1)) (xs (i + 2))).1.toInt64) hx hb dL_law_1443 rfl ?_
    have hvv : v' 0 = (mf_extend M (xs (i + 1)) (xs (i + 2))).1.toInt64 := by rw [hv', hr]
    refine W.eq (g2 := F0 m 1444 ls [.long ((mf_extend M (xs (i + 1)) (xs (i + 2))).1.toInt64), .long ((mf_extend M (xs (i + 1)) (xs (i + 2))).1.toInt64)]) (congrArg (fun z => F0 m 1444 ls [.long ((mf_extend M (xs (i + 1)) (xs (i + 2))).1.toInt64), .long z]) hvv) ?_
    refine lv_lcmpE hx hb dL_law_1444 ?_
    refine lv_if_eq (tgt := 1450) hx hb dL_law_1445 (by decide) (fun _ => ?_) (fun h => absurd rfl h)
    refine lv_goto (tgt := 2388) hx hb dL_law_1450 (by decide) ?_
    refine W.widen (k := cells + 870) (n := slots + 3850) (by omega) (by omega) ?_
    exact kk S' (mf_extend M (xs (i + 1)) (xs (i + 2))).2 H locs ls ⟨hCP2, ⟨g', h', v', hg0, hh', hR⟩, hM⟩ hS (lv_sub hl [2, 3, 4, 5, 6] rfl)
set_option maxHeartbeats 2000000 in
set_option maxRecDepth 100000 in
theorem lc_sell {CP : gs_T → gs_T → Prop} (hCPi : ∀ S M, CP S M → xi_ok S ∧ mi_ok M) (hc : ∀ S M (p1 : Int32) (p2 : Int32), CP S M → cl_P CP ["java/lang/IndexOutOfBoundsException", "java/lang/IllegalArgumentException", "java/lang/IllegalStateException"] (xp_sell S p1 p2) (mf_sell M p1 p2).1 (mf_sell M p1 p2).2 S) {l : Launch} {p : Program} {e : Env} {s : State} {m : MethodId} {below : List Frame} {meth : Method} {c : Code} {H : Heap} {locs : List Loc} {cells slots : Nat} {Q : State → Prop} {ls : Array Slot} {b Ln i : Nat} {xs : Nat → Int32} {E : en_T} {C : ex_C} {x0 ym o : Nat} {ad : Nat → Nat} {L : List Nat} {S M : gs_T} (hE : le_E l p s m meth c b Ln xs E C ym L) (hi : i + 8 ≤ Ln) (hW : LW CP E C s x0 ym o ad L S M H) (hS : va_S (la_9 s) s.heap H locs) (hl : lv_has ls 7 [(4, .int (nI i)), (3, .ref o), (2, .ref ym), (1, .ref x0), (0, .ref b)]) (hf : cells + 870 ≤ 1200384 ∧ slots + 3850 ≤ 5490858) (kk : ∀ (S' M' : gs_T) (H' : Heap) (locs' : List Loc) (ls' : Array Slot), LW CP E C s x0 ym o ad L S' M' H' → va_S (la_9 s) s.heap H' locs' → lv_has ls' 7 [(4, .int (nI i)), (3, .ref o), (2, .ref ym), (1, .ref x0), (0, .ref b)] → W p l e room_1 s m #[.ref b] below meth c H' locs' (cells + 870) (slots + 3850) Q (F0 m 2388 ls' [])) : W p l e room_1 s m #[.ref b] below meth c H locs cells slots Q (F0 m 1453 ls []) := by
  obtain ⟨hx, hb, hml, hown, hts, hX, hbl, hK, hN, hZ, hfl, hL9, hLn⟩ := hE
  obtain ⟨hCP, ⟨g, h, v, hg0, hh, hR⟩, hM⟩ := hW
  obtain ⟨hI, hmi⟩ := hCPi S M hCP
  subst hg0
  refine lv_aload_n hx hb dL_law_1453 rfl (lv_at hl 3 rfl) ?_
  refine lv_aload_n hx hb dL_law_1454 rfl (lv_at hl 4 rfl) ?_
  refine lv_iload hx hb dL_law_1455 (lv_at hl 0 rfl) ?_
  refine lv_iconst (v := nI 1) hx hb dL_law_1457 (by decide) ?_
  refine sc_ld hx hb hX hbl hS (show i + 1 < Ln by omega) hLn dL_law_1458 dL_law_1459 ?_
  refine lv_aload_n hx hb dL_law_1460 rfl (lv_at hl 4 rfl) ?_
  refine lv_iload hx hb dL_law_1461 (lv_at hl 0 rfl) ?_
  refine lv_iconst (v := nI 2) hx hb dL_law_1463 (by decide) ?_
  refine sc_ld hx hb hX hbl hS (show i + 2 < Ln by omega) hLn dL_law_1464 dL_law_1465 ?_
  refine lv_aload_n hx hb dL_law_1466 rfl (lv_at hl 1 rfl) ?_
  have hcl := hc S M (xs (i + 1)) (xs (i + 2)) hCP
  have hmz : mi_ok M := hmi
  refine ls_S (As := [.ref (g 0 0), .int (xs (i + 1)), .int (xs (i + 2)), .ref o]) (rest := []) hK hN hZ hS (fun _ h => h.1) (la_new hS.1 (mr_lt hM)) hR ⟨hI, hh⟩ (wt_sell l hfl E C (la_A s L) H.size g h S o v (xs (i + 1)) (xs (i + 2))) ⟨hx, hb, hml, hown, hts⟩ (vx_cwSW 4 hts (lw_SW q826 q827 q32 q828) rfl rfl rfl (by decide +kernel) ⟨Nat.le_of_ble_eq_true rfl, Nat.le_of_ble_eq_true rfl⟩) rfl hl.1 rfl (Nat.le_of_ble_eq_true rfl) dL_law_1467 ⟨(show _ ≤ 1200384 by omega), (show _ ≤ 5490858 by omega)⟩ (fun Xn ix v' H locs hxn hix hR hz hk hS => ?_) (fun r S' g' h' v' H locs hxn hg0 hh' hv' hR hz hk hS => ?_)
  · have hM := hM.kept (fun a ha hlt => hk a hlt (fun z => z.2 ha))
    obtain ⟨j, hj, ht, hCP2⟩ := hcl.1 Xn hxn
    have ej := li_ne (by decide) hix hj
    rw [← ej] at ht
    refine lv_istore (lv' := [(5, .int (nI (ix + 1))), (4, .int (nI i)), (3, .ref o), (2, .ref ym), (1, .ref (g 0 0)), (0, .ref b)]) hx hb dL_law_1470 hl (by decide) rfl (fun ls hl => ?_)
    refine lv_aload_n hx hb dL_law_1472 rfl (lv_at hl 3 rfl) ?_
    refine lv_aload_n hx hb dL_law_1473 rfl (lv_at hl 5 rfl) ?_
    refine lv_iload hx hb dL_law_1474 (lv_at hl 1 rfl) ?_
    refine lv_iconst (v := nI 1) hx hb dL_law_1476 (by decide) ?_
    refine sc_ld hx hb hX hbl hS (show i + 1 < Ln by omega) hLn dL_law_1477 dL_law_1478 ?_
    refine lv_aload_n hx hb dL_law_1479 rfl (lv_at hl 5 rfl) ?_
    refine lv_iload hx hb dL_law_1480 (lv_at hl 1 rfl) ?_
    refine lv_iconst (v := nI 2) hx hb dL_law_1482 (by decide) ?_
    refine sc_ld hx hb hX hbl hS (show i + 2 < Ln by omega) hLn dL_law_1483 dL_law_1484 ?_
    refine mr_calli (As := [.int (xs (i + 1)), .int (xs (i + 2))]) (rest := []) ⟨hx, hb, hml, hown, hts⟩ (mt_sell l E ym ad L M (xs (i + 1)) (xs (i + 2))) (cwV 2 hts (lw_V q1213 q1214 q1215 q41 q1216) rfl rfl rfl (by decide +kernel) ⟨Nat.le_of_ble_eq_true rfl, Nat.le_of_ble_eq_true rfl⟩) hmz hK.1 hM hL9 hS rfl hl.1 rfl (Nat.le_of_ble_eq_true rfl) dL_law_1485 ⟨(show _ ≤ 1200384 by omega), (show _ ≤ 5490858 by omega)⟩ (fun H locs hM hS hz hk => ?_)
    have hR := hR.kept (fun a ha hlt => hk a hlt (fun z => ha.2 z))
    refine W.eq (g2 := F0 m 1488 ls [.int (mf_sell M (xs (i + 1)) (xs (i + 2))).1]) rfl ?_
    refine lv_istore (lv' := [(6, .int (mf_sell M (xs (i + 1)) (xs (i + 2))).1), (5, .int (nI (ix + 1))), (4, .int (nI i)), (3, .ref o), (2, .ref ym), (1, .ref (g 0 0)), (0, .ref b)]) hx hb dL_law_1488 hl (by decide) rfl (fun ls hl => ?_)
    refine lv_aload_n hx hb dL_law_1490 rfl (lv_at hl 4 rfl) ?_
    refine mr_calli (As := []) (rest := []) ⟨hx, hb, hml, hown, hts⟩ (mt_thrown l E ym ad L (mf_sell M (xs (i + 1)) (xs (i + 2))).2) (cwV 0 hts (lw_V q1067 q1068 q1069 q41 q1070) rfl rfl rfl (by decide +kernel) ⟨Nat.le_of_ble_eq_true rfl, Nat.le_of_ble_eq_true rfl⟩) trivial hK.1 hM hL9 hS rfl hl.1 rfl (Nat.le_of_ble_eq_true rfl) dL_law_1491 ⟨(show _ ≤ 1200384 by omega), (show _ ≤ 5490858 by omega)⟩ (fun H locs hM hS hz hk => ?_)
    have hR := hR.kept (fun a ha hlt => hk a hlt (fun z => ha.2 z))
    refine W.eq (g2 := F0 m 1494 ls [.int (mf_thrown (mf_sell M (xs (i + 1)) (xs (i + 2))).2)]) rfl ?_
    refine lv_iload hx hb dL_law_1494 (lv_at hl 1 rfl) ?_
    refine lv_icmp_eq (tgt := 1501) hx hb dL_law_1496 (by decide) (fun _ => ?_) (fun h => absurd ht h)
    refine lv_iload hx hb dL_law_1501 (lv_at hl 1 rfl) ?_
    refine lv_if_ne (tgt := 1518) hx hb dL_law_1503 (by decide) (fun _ => ?_) (fun h => absurd h (li_n0 (by decide) hix))
    refine lv_goto (tgt := 2388) hx hb dL_law_1518 (by decide) ?_
    refine W.widen (k := cells + 870) (n := slots + 3850) (by omega) (by omega) ?_
    exact kk S (mf_sell M (xs (i + 1)) (xs (i + 2))).2 H locs ls ⟨hCP2, ⟨g, h, v', rfl, hh, hR⟩, hM⟩ hS (lv_sub hl [2, 3, 4, 5, 6] rfl)
  · have hM := hM.kept (fun a ha hlt => hk a hlt (fun z => z.2 ha))
    obtain ⟨ht, hr, hCP2⟩ := hcl.2 r S' hxn
    refine lv_istore (lv' := [(5, .int 0), (4, .int (nI i)), (3, .ref o), (2, .ref ym), (1, .ref (g 0 0)), (0, .ref b)]) hx hb dL_law_1470 hl (by decide) rfl (fun ls hl => ?_)
    refine lv_aload_n hx hb dL_law_1472 rfl (lv_at hl 3 rfl) ?_
    refine lv_aload_n hx hb dL_law_1473 rfl (lv_at hl 5 rfl) ?_
    refine lv_iload hx hb dL_law_1474 (lv_at hl 1 rfl) ?_
    refine lv_iconst (v := nI 1) hx hb dL_law_1476 (by decide) ?_
    refine sc_ld hx hb hX hbl hS (show i + 1 < Ln by omega) hLn dL_law_1477 dL_law_1478 ?_
    refine lv_aload_n hx hb dL_law_1479 rfl (lv_at hl 5 rfl) ?_
    refine lv_iload hx hb dL_law_1480 (lv_at hl 1 rfl) ?_
    refine lv_iconst (v := nI 2) hx hb dL_law_1482 (by decide) ?_
    refine sc_ld hx hb hX hbl hS (show i + 2 < Ln by omega) hLn dL_law_1483 dL_law_1484 ?_
    refine mr_calli (As := [.int (xs (i + 1)), .int (xs (i + 2))]) (rest := []) ⟨hx, hb, hml, hown, hts⟩ (mt_sell l E ym ad L M (xs (i + 1)) (xs (i + 2))) (cwV 2 hts (lw_V q1213 q1214 q1215 q41 q1216) rfl rfl rfl (by decide +kernel) ⟨Nat.le_of_ble_eq_true rfl, Nat.le_of_ble_eq_true rfl⟩) hmz hK.1 hM hL9 hS rfl hl.1 rfl (Nat.le_of_ble_eq_true rfl) dL_law_1485 ⟨(show _ ≤ 1200384 by omega), (show _ ≤ 5490858 by omega)⟩ (fun H locs hM hS hz hk => ?_)
    have hR := hR.kept (fun a ha hlt => hk a hlt (fun z => ha.2 z))
    refine W.eq (g2 := F0 m 1488 ls [.int (mf_sell M (xs (i + 1)) (xs (i + 2))).1]) rfl ?_
    refine lv_istore (lv' := [(6, .int (mf_sell M (xs (i + 1)) (xs (i + 2))).1), (5, .int 0), (4, .int (nI i)), (3, .ref o), (2, .ref ym), (1, .ref (g 0 0)), (0, .ref b)]) hx hb dL_law_1488 hl (by decide) rfl (fun ls hl => ?_)
    refine lv_aload_n hx hb dL_law_1490 rfl (lv_at hl 4 rfl) ?_
    refine mr_calli (As := []) (rest := []) ⟨hx, hb, hml, hown, hts⟩ (mt_thrown l E ym ad L (mf_sell M (xs (i + 1)) (xs (i + 2))).2) (cwV 0 hts (lw_V q1067 q1068 q1069 q41 q1070) rfl rfl rfl (by decide +kernel) ⟨Nat.le_of_ble_eq_true rfl, Nat.le_of_ble_eq_true rfl⟩) trivial hK.1 hM hL9 hS rfl hl.1 rfl (Nat.le_of_ble_eq_true rfl) dL_law_1491 ⟨(show _ ≤ 1200384 by omega), (show _ ≤ 5490858 by omega)⟩ (fun H locs hM hS hz hk => ?_)
    have hR := hR.kept (fun a ha hlt => hk a hlt (fun z => ha.2 z))
    refine W.eq (g2 := F0 m 1494 ls [.int (mf_thrown (mf_sell M (xs (i + 1)) (xs (i + 2))).2)]) rfl ?_
    refine lv_iload hx hb dL_law_1494 (lv_at hl 1 rfl) ?_
    refine lv_icmp_eq (tgt := 1501) hx hb dL_law_1496 (by decide) (fun _ => ?_) (fun h => absurd ht h)
    refine lv_iload hx hb dL_law_1501 (lv_at hl 1 rfl) ?_
    refine lv_if_ne (tgt := 1518) hx hb dL_law_1503 (by decide) (fun h => absurd rfl h) (fun _ => ?_)
    refine lv_aload_n hx hb dL_law_1506 rfl (lv_at hl 3 rfl) ?_
    refine lv_iconst (v := 0) hx hb dL_law_1507 (by decide) ?_
    refine xo_lald hx hb hK.1 hR dL_law_1508 ?_
    refine lv_iload hx hb dL_law_1509 (lv_at hl 0 rfl) ?_
    refine lv_i2l (v := (mf_sell M (xs (i + 1)) (xs (i + 2))).1.toInt64) hx hb dL_law_1511 rfl ?_
    have hvv : v' 0 = (mf_sell M (xs (i + 1)) (xs (i + 2))).1.toInt64 := by rw [hv', hr]
    refine W.eq (g2 := F0 m 1512 ls [.long ((mf_sell M (xs (i + 1)) (xs (i + 2))).1.toInt64), .long ((mf_sell M (xs (i + 1)) (xs (i + 2))).1.toInt64)]) (congrArg (fun z => F0 m 1512 ls [.long ((mf_sell M (xs (i + 1)) (xs (i + 2))).1.toInt64), .long z]) hvv) ?_
    refine lv_lcmpE hx hb dL_law_1512 ?_
    refine lv_if_eq (tgt := 1518) hx hb dL_law_1513 (by decide) (fun _ => ?_) (fun h => absurd rfl h)
    refine lv_goto (tgt := 2388) hx hb dL_law_1518 (by decide) ?_
    refine W.widen (k := cells + 870) (n := slots + 3850) (by omega) (by omega) ?_
    exact kk S' (mf_sell M (xs (i + 1)) (xs (i + 2))).2 H locs ls ⟨hCP2, ⟨g', h', v', hg0, hh', hR⟩, hM⟩ hS (lv_sub hl [2, 3, 4, 5, 6] rfl)
set_option maxHeartbeats 2000000 in
set_option maxRecDepth 100000 in
theorem lc_destroy {CP : gs_T → gs_T → Prop} (hCPi : ∀ S M, CP S M → xi_ok S ∧ mi_ok M) (hc : ∀ S M (p1 : Int32), CP S M → cl_P CP ["java/lang/IndexOutOfBoundsException", "java/lang/IllegalStateException"] (xp_destroy S p1) (mf_destroy M p1).1 (mf_destroy M p1).2 S) {l : Launch} {p : Program} {e : Env} {s : State} {m : MethodId} {below : List Frame} {meth : Method} {c : Code} {H : Heap} {locs : List Loc} {cells slots : Nat} {Q : State → Prop} {ls : Array Slot} {b Ln i : Nat} {xs : Nat → Int32} {E : en_T} {C : ex_C} {x0 ym o : Nat} {ad : Nat → Nat} {L : List Nat} {S M : gs_T} (hE : le_E l p s m meth c b Ln xs E C ym L) (hi : i + 8 ≤ Ln) (hW : LW CP E C s x0 ym o ad L S M H) (hS : va_S (la_9 s) s.heap H locs) (hl : lv_has ls 7 [(4, .int (nI i)), (3, .ref o), (2, .ref ym), (1, .ref x0), (0, .ref b)]) (hf : cells + 870 ≤ 1200384 ∧ slots + 3850 ≤ 5490858) (kk : ∀ (S' M' : gs_T) (H' : Heap) (locs' : List Loc) (ls' : Array Slot), LW CP E C s x0 ym o ad L S' M' H' → va_S (la_9 s) s.heap H' locs' → lv_has ls' 7 [(4, .int (nI i)), (3, .ref o), (2, .ref ym), (1, .ref x0), (0, .ref b)] → W p l e room_1 s m #[.ref b] below meth c H' locs' (cells + 870) (slots + 3850) Q (F0 m 2388 ls' [])) : W p l e room_1 s m #[.ref b] below meth c H locs cells slots Q (F0 m 1521 ls []) := by
  obtain ⟨hx, hb, hml, hown, hts, hX, hbl, hK, hN, hZ, hfl, hL9, hLn⟩ := hE
  obtain ⟨hCP, ⟨g, h, v, hg0, hh, hR⟩, hM⟩ := hW
  obtain ⟨hI, hmi⟩ := hCPi S M hCP
  subst hg0
  refine lv_aload_n hx hb dL_law_1521 rfl (lv_at hl 3 rfl) ?_
  refine lv_aload_n hx hb dL_law_1522 rfl (lv_at hl 4 rfl) ?_
  refine lv_iload hx hb dL_law_1523 (lv_at hl 0 rfl) ?_
  refine lv_iconst (v := nI 1) hx hb dL_law_1525 (by decide) ?_
  refine sc_ld hx hb hX hbl hS (show i + 1 < Ln by omega) hLn dL_law_1526 dL_law_1527 ?_
  refine lv_aload_n hx hb dL_law_1528 rfl (lv_at hl 1 rfl) ?_
  have hcl := hc S M (xs (i + 1)) hCP
  have hmz : mi_ok M := hmi
  refine ls_S (As := [.ref (g 0 0), .int (xs (i + 1)), .ref o]) (rest := []) hK hN hZ hS (fun _ h => h.1) (la_new hS.1 (mr_lt hM)) hR ⟨hI, hh⟩ (wt_destroy l hfl E C (la_A s L) H.size g h S o v (xs (i + 1))) ⟨hx, hb, hml, hown, hts⟩ (vx_cwSW 3 hts (lw_SW q837 q838 q32 q839) rfl rfl rfl (by decide +kernel) ⟨Nat.le_of_ble_eq_true rfl, Nat.le_of_ble_eq_true rfl⟩) rfl hl.1 rfl (Nat.le_of_ble_eq_true rfl) dL_law_1529 ⟨(show _ ≤ 1200384 by omega), (show _ ≤ 5490858 by omega)⟩ (fun Xn ix v' H locs hxn hix hR hz hk hS => ?_) (fun r S' g' h' v' H locs hxn hg0 hh' hv' hR hz hk hS => ?_)
  · have hM := hM.kept (fun a ha hlt => hk a hlt (fun z => z.2 ha))
    obtain ⟨j, hj, ht, hCP2⟩ := hcl.1 Xn hxn
    have ej := li_ne (by decide) hix hj
    rw [← ej] at ht
    refine lv_istore (lv' := [(5, .int (nI (ix + 1))), (4, .int (nI i)), (3, .ref o), (2, .ref ym), (1, .ref (g 0 0)), (0, .ref b)]) hx hb dL_law_1532 hl (by decide) rfl (fun ls hl => ?_)
    refine lv_aload_n hx hb dL_law_1534 rfl (lv_at hl 3 rfl) ?_
    refine lv_aload_n hx hb dL_law_1535 rfl (lv_at hl 5 rfl) ?_
    refine lv_iload hx hb dL_law_1536 (lv_at hl 1 rfl) ?_
    refine lv_iconst (v := nI 1) hx hb dL_law_1538 (by decide) ?_
    refine sc_ld hx hb hX hbl hS (show i + 1 < Ln by omega) hLn dL_law_1539 dL_law_1540 ?_
    refine mr_calli (As := [.int (xs (i + 1))]) (rest := []) ⟨hx, hb, hml, hown, hts⟩ (mt_destroy l E ym ad L M (xs (i + 1))) (cwV 1 hts (lw_V q1221 q1222 q1223 q41 q1224) rfl rfl rfl (by decide +kernel) ⟨Nat.le_of_ble_eq_true rfl, Nat.le_of_ble_eq_true rfl⟩) hmz hK.1 hM hL9 hS rfl hl.1 rfl (Nat.le_of_ble_eq_true rfl) dL_law_1541 ⟨(show _ ≤ 1200384 by omega), (show _ ≤ 5490858 by omega)⟩ (fun H locs hM hS hz hk => ?_)
    have hR := hR.kept (fun a ha hlt => hk a hlt (fun z => ha.2 z))
    refine W.eq (g2 := F0 m 1544 ls [.int (mf_destroy M (xs (i + 1))).1]) rfl ?_
    refine lv_istore (lv' := [(6, .int (mf_destroy M (xs (i + 1))).1), (5, .int (nI (ix + 1))), (4, .int (nI i)), (3, .ref o), (2, .ref ym), (1, .ref (g 0 0)), (0, .ref b)]) hx hb dL_law_1544 hl (by decide) rfl (fun ls hl => ?_)
    refine lv_aload_n hx hb dL_law_1546 rfl (lv_at hl 4 rfl) ?_
    refine mr_calli (As := []) (rest := []) ⟨hx, hb, hml, hown, hts⟩ (mt_thrown l E ym ad L (mf_destroy M (xs (i + 1))).2) (cwV 0 hts (lw_V q1067 q1068 q1069 q41 q1070) rfl rfl rfl (by decide +kernel) ⟨Nat.le_of_ble_eq_true rfl, Nat.le_of_ble_eq_true rfl⟩) trivial hK.1 hM hL9 hS rfl hl.1 rfl (Nat.le_of_ble_eq_true rfl) dL_law_1547 ⟨(show _ ≤ 1200384 by omega), (show _ ≤ 5490858 by omega)⟩ (fun H locs hM hS hz hk => ?_)
    have hR := hR.kept (fun a ha hlt => hk a hlt (fun z => ha.2 z))
    refine W.eq (g2 := F0 m 1550 ls [.int (mf_thrown (mf_destroy M (xs (i + 1))).2)]) rfl ?_
    refine lv_iload hx hb dL_law_1550 (lv_at hl 1 rfl) ?_
    refine lv_icmp_eq (tgt := 1557) hx hb dL_law_1552 (by decide) (fun _ => ?_) (fun h => absurd ht h)
    refine lv_iload hx hb dL_law_1557 (lv_at hl 1 rfl) ?_
    refine lv_if_ne (tgt := 1574) hx hb dL_law_1559 (by decide) (fun _ => ?_) (fun h => absurd h (li_n0 (by decide) hix))
    refine lv_goto (tgt := 2388) hx hb dL_law_1574 (by decide) ?_
    refine W.widen (k := cells + 870) (n := slots + 3850) (by omega) (by omega) ?_
    exact kk S (mf_destroy M (xs (i + 1))).2 H locs ls ⟨hCP2, ⟨g, h, v', rfl, hh, hR⟩, hM⟩ hS (lv_sub hl [2, 3, 4, 5, 6] rfl)
  · have hM := hM.kept (fun a ha hlt => hk a hlt (fun z => z.2 ha))
    obtain ⟨ht, hr, hCP2⟩ := hcl.2 r S' hxn
    refine lv_istore (lv' := [(5, .int 0), (4, .int (nI i)), (3, .ref o), (2, .ref ym), (1, .ref (g 0 0)), (0, .ref b)]) hx hb dL_law_1532 hl (by decide) rfl (fun ls hl => ?_)
    refine lv_aload_n hx hb dL_law_1534 rfl (lv_at hl 3 rfl) ?_
    refine lv_aload_n hx hb dL_law_1535 rfl (lv_at hl 5 rfl) ?_
    refine lv_iload hx hb dL_law_1536 (lv_at hl 1 rfl) ?_
    refine lv_iconst (v := nI 1) hx hb dL_law_1538 (by decide) ?_
    refine sc_ld hx hb hX hbl hS (show i + 1 < Ln by omega) hLn dL_law_1539 dL_law_1540 ?_
    refine mr_calli (As := [.int (xs (i + 1))]) (rest := []) ⟨hx, hb, hml, hown, hts⟩ (mt_destroy l E ym ad L M (xs (i + 1))) (cwV 1 hts (lw_V q1221 q1222 q1223 q41 q1224) rfl rfl rfl (by decide +kernel) ⟨Nat.le_of_ble_eq_true rfl, Nat.le_of_ble_eq_true rfl⟩) hmz hK.1 hM hL9 hS rfl hl.1 rfl (Nat.le_of_ble_eq_true rfl) dL_law_1541 ⟨(show _ ≤ 1200384 by omega), (show _ ≤ 5490858 by omega)⟩ (fun H locs hM hS hz hk => ?_)
    have hR := hR.kept (fun a ha hlt => hk a hlt (fun z => ha.2 z))
    refine W.eq (g2 := F0 m 1544 ls [.int (mf_destroy M (xs (i + 1))).1]) rfl ?_
    refine lv_istore (lv' := [(6, .int (mf_destroy M (xs (i + 1))).1), (5, .int 0), (4, .int (nI i)), (3, .ref o), (2, .ref ym), (1, .ref (g 0 0)), (0, .ref b)]) hx hb dL_law_1544 hl (by decide) rfl (fun ls hl => ?_)
    refine lv_aload_n hx hb dL_law_1546 rfl (lv_at hl 4 rfl) ?_
    refine mr_calli (As := []) (rest := []) ⟨hx, hb, hml, hown, hts⟩ (mt_thrown l E ym ad L (mf_destroy M (xs (i + 1))).2) (cwV 0 hts (lw_V q1067 q1068 q1069 q41 q1070) rfl rfl rfl (by decide +kernel) ⟨Nat.le_of_ble_eq_true rfl, Nat.le_of_ble_eq_true rfl⟩) trivial hK.1 hM hL9 hS rfl hl.1 rfl (Nat.le_of_ble_eq_true rfl) dL_law_1547 ⟨(show _ ≤ 1200384 by omega), (show _ ≤ 5490858 by omega)⟩ (fun H locs hM hS hz hk => ?_)
    have hR := hR.kept (fun a ha hlt => hk a hlt (fun z => ha.2 z))
    refine W.eq (g2 := F0 m 1550 ls [.int (mf_thrown (mf_destroy M (xs (i + 1))).2)]) rfl ?_
    refine lv_iload hx hb dL_law_1550 (lv_at hl 1 rfl) ?_
    refine lv_icmp_eq (tgt := 1557) hx hb dL_law_1552 (by decide) (fun _ => ?_) (fun h => absurd ht h)
    refine lv_iload hx hb dL_law_1557 (lv_at hl 1 rfl) ?_
    refine lv_if_ne (tgt := 1574) hx hb dL_law_1559 (by decide) (fun h => absurd rfl h) (fun _ => ?_)
    refine lv_aload_n hx hb dL_law_1562 rfl (lv_at hl 3 rfl) ?_
    refine lv_iconst (v := 0) hx hb dL_law_1563 (by decide) ?_
    refine xo_lald hx hb hK.1 hR dL_law_1564 ?_
    refine lv_iload hx hb dL_law_1565 (lv_at hl 0 rfl) ?_
    refine lv_i2l (v := (mf_destroy M (xs (i + 1))).1.toInt64) hx hb dL_law_1567 rfl ?_
    have hvv : v' 0 = (mf_destroy M (xs (i + 1))).1.toInt64 := by rw [hv', hr]
    refine W.eq (g2 := F0 m 1568 ls [.long ((mf_destroy M (xs (i + 1))).1.toInt64), .long ((mf_destroy M (xs (i + 1))).1.toInt64)]) (congrArg (fun z => F0 m 1568 ls [.long ((mf_destroy M (xs (i + 1))).1.toInt64), .long z]) hvv) ?_
    refine lv_lcmpE hx hb dL_law_1568 ?_
    refine lv_if_eq (tgt := 1574) hx hb dL_law_1569 (by decide) (fun _ => ?_) (fun h => absurd rfl h)
    refine lv_goto (tgt := 2388) hx hb dL_law_1574 (by decide) ?_
    refine W.widen (k := cells + 870) (n := slots + 3850) (by omega) (by omega) ?_
    exact kk S' (mf_destroy M (xs (i + 1))).2 H locs ls ⟨hCP2, ⟨g', h', v', hg0, hh', hR⟩, hM⟩ hS (lv_sub hl [2, 3, 4, 5, 6] rfl)
set_option maxHeartbeats 2000000 in
set_option maxRecDepth 100000 in
theorem lc_payOut {CP : gs_T → gs_T → Prop} (hCPi : ∀ S M, CP S M → xi_ok S ∧ mi_ok M) (hc : ∀ S M (p1 : Int32) (p2 : Int32), CP S M → cl_P CP ["java/lang/IndexOutOfBoundsException", "java/lang/IllegalStateException"] (xp_payOut S p1 p2) (mf_payOut M p1 p2).1 (mf_payOut M p1 p2).2 S) {l : Launch} {p : Program} {e : Env} {s : State} {m : MethodId} {below : List Frame} {meth : Method} {c : Code} {H : Heap} {locs : List Loc} {cells slots : Nat} {Q : State → Prop} {ls : Array Slot} {b Ln i : Nat} {xs : Nat → Int32} {E : en_T} {C : ex_C} {x0 ym o : Nat} {ad : Nat → Nat} {L : List Nat} {S M : gs_T} (hE : le_E l p s m meth c b Ln xs E C ym L) (hi : i + 8 ≤ Ln) (hW : LW CP E C s x0 ym o ad L S M H) (hS : va_S (la_9 s) s.heap H locs) (hl : lv_has ls 7 [(4, .int (nI i)), (3, .ref o), (2, .ref ym), (1, .ref x0), (0, .ref b)]) (hf : cells + 870 ≤ 1200384 ∧ slots + 3850 ≤ 5490858) (kk : ∀ (S' M' : gs_T) (H' : Heap) (locs' : List Loc) (ls' : Array Slot), LW CP E C s x0 ym o ad L S' M' H' → va_S (la_9 s) s.heap H' locs' → lv_has ls' 7 [(4, .int (nI i)), (3, .ref o), (2, .ref ym), (1, .ref x0), (0, .ref b)] → W p l e room_1 s m #[.ref b] below meth c H' locs' (cells + 870) (slots + 3850) Q (F0 m 2388 ls' [])) : W p l e room_1 s m #[.ref b] below meth c H locs cells slots Q (F0 m 1577 ls []) := by
  obtain ⟨hx, hb, hml, hown, hts, hX, hbl, hK, hN, hZ, hfl, hL9, hLn⟩ := hE
  obtain ⟨hCP, ⟨g, h, v, hg0, hh, hR⟩, hM⟩ := hW
  obtain ⟨hI, hmi⟩ := hCPi S M hCP
  subst hg0
  refine lv_aload_n hx hb dL_law_1577 rfl (lv_at hl 3 rfl) ?_
  refine lv_aload_n hx hb dL_law_1578 rfl (lv_at hl 4 rfl) ?_
  refine lv_iload hx hb dL_law_1579 (lv_at hl 0 rfl) ?_
  refine lv_iconst (v := nI 1) hx hb dL_law_1581 (by decide) ?_
  refine sc_ld hx hb hX hbl hS (show i + 1 < Ln by omega) hLn dL_law_1582 dL_law_1583 ?_
  refine lv_aload_n hx hb dL_law_1584 rfl (lv_at hl 4 rfl) ?_
  refine lv_iload hx hb dL_law_1585 (lv_at hl 0 rfl) ?_
  refine lv_iconst (v := nI 2) hx hb dL_law_1587 (by decide) ?_
  refine sc_ld hx hb hX hbl hS (show i + 2 < Ln by omega) hLn dL_law_1588 dL_law_1589 ?_
  refine lv_aload_n hx hb dL_law_1590 rfl (lv_at hl 1 rfl) ?_
  have hcl := hc S M (xs (i + 1)) (xs (i + 2)) hCP
  have hmz : mi_ok M := hmi
  refine ls_S (As := [.ref (g 0 0), .int (xs (i + 1)), .int (xs (i + 2)), .ref o]) (rest := []) hK hN hZ hS (fun _ h => h.1) (la_new hS.1 (mr_lt hM)) hR ⟨hI, hh⟩ (wt_payOut l hfl E C (la_A s L) H.size g h S o v (xs (i + 1)) (xs (i + 2))) ⟨hx, hb, hml, hown, hts⟩ (vx_cwSW 4 hts (lw_SW q844 q845 q32 q846) rfl rfl rfl (by decide +kernel) ⟨Nat.le_of_ble_eq_true rfl, Nat.le_of_ble_eq_true rfl⟩) rfl hl.1 rfl (Nat.le_of_ble_eq_true rfl) dL_law_1591 ⟨(show _ ≤ 1200384 by omega), (show _ ≤ 5490858 by omega)⟩ (fun Xn ix v' H locs hxn hix hR hz hk hS => ?_) (fun r S' g' h' v' H locs hxn hg0 hh' hv' hR hz hk hS => ?_)
  · have hM := hM.kept (fun a ha hlt => hk a hlt (fun z => z.2 ha))
    obtain ⟨j, hj, ht, hCP2⟩ := hcl.1 Xn hxn
    have ej := li_ne (by decide) hix hj
    rw [← ej] at ht
    refine lv_istore (lv' := [(5, .int (nI (ix + 1))), (4, .int (nI i)), (3, .ref o), (2, .ref ym), (1, .ref (g 0 0)), (0, .ref b)]) hx hb dL_law_1594 hl (by decide) rfl (fun ls hl => ?_)
    refine lv_aload_n hx hb dL_law_1596 rfl (lv_at hl 3 rfl) ?_
    refine lv_aload_n hx hb dL_law_1597 rfl (lv_at hl 5 rfl) ?_
    refine lv_iload hx hb dL_law_1598 (lv_at hl 1 rfl) ?_
    refine lv_iconst (v := nI 1) hx hb dL_law_1600 (by decide) ?_
    refine sc_ld hx hb hX hbl hS (show i + 1 < Ln by omega) hLn dL_law_1601 dL_law_1602 ?_
    refine lv_aload_n hx hb dL_law_1603 rfl (lv_at hl 5 rfl) ?_
    refine lv_iload hx hb dL_law_1604 (lv_at hl 1 rfl) ?_
    refine lv_iconst (v := nI 2) hx hb dL_law_1606 (by decide) ?_
    refine sc_ld hx hb hX hbl hS (show i + 2 < Ln by omega) hLn dL_law_1607 dL_law_1608 ?_
    refine mr_calli (As := [.int (xs (i + 1)), .int (xs (i + 2))]) (rest := []) ⟨hx, hb, hml, hown, hts⟩ (mt_payOut l E ym ad L M (xs (i + 1)) (xs (i + 2))) (cwV 2 hts (lw_V q1225 q1226 q1227 q41 q1228) rfl rfl rfl (by decide +kernel) ⟨Nat.le_of_ble_eq_true rfl, Nat.le_of_ble_eq_true rfl⟩) hmz hK.1 hM hL9 hS rfl hl.1 rfl (Nat.le_of_ble_eq_true rfl) dL_law_1609 ⟨(show _ ≤ 1200384 by omega), (show _ ≤ 5490858 by omega)⟩ (fun H locs hM hS hz hk => ?_)
    have hR := hR.kept (fun a ha hlt => hk a hlt (fun z => ha.2 z))
    refine W.eq (g2 := F0 m 1612 ls [.int (mf_payOut M (xs (i + 1)) (xs (i + 2))).1]) rfl ?_
    refine lv_istore (lv' := [(6, .int (mf_payOut M (xs (i + 1)) (xs (i + 2))).1), (5, .int (nI (ix + 1))), (4, .int (nI i)), (3, .ref o), (2, .ref ym), (1, .ref (g 0 0)), (0, .ref b)]) hx hb dL_law_1612 hl (by decide) rfl (fun ls hl => ?_)
    refine lv_aload_n hx hb dL_law_1614 rfl (lv_at hl 4 rfl) ?_
    refine mr_calli (As := []) (rest := []) ⟨hx, hb, hml, hown, hts⟩ (mt_thrown l E ym ad L (mf_payOut M (xs (i + 1)) (xs (i + 2))).2) (cwV 0 hts (lw_V q1067 q1068 q1069 q41 q1070) rfl rfl rfl (by decide +kernel) ⟨Nat.le_of_ble_eq_true rfl, Nat.le_of_ble_eq_true rfl⟩) trivial hK.1 hM hL9 hS rfl hl.1 rfl (Nat.le_of_ble_eq_true rfl) dL_law_1615 ⟨(show _ ≤ 1200384 by omega), (show _ ≤ 5490858 by omega)⟩ (fun H locs hM hS hz hk => ?_)
    have hR := hR.kept (fun a ha hlt => hk a hlt (fun z => ha.2 z))
    refine W.eq (g2 := F0 m 1618 ls [.int (mf_thrown (mf_payOut M (xs (i + 1)) (xs (i + 2))).2)]) rfl ?_
    refine lv_iload hx hb dL_law_1618 (lv_at hl 1 rfl) ?_
    refine lv_icmp_eq (tgt := 1625) hx hb dL_law_1620 (by decide) (fun _ => ?_) (fun h => absurd ht h)
    refine lv_iload hx hb dL_law_1625 (lv_at hl 1 rfl) ?_
    refine lv_if_ne (tgt := 1642) hx hb dL_law_1627 (by decide) (fun _ => ?_) (fun h => absurd h (li_n0 (by decide) hix))
    refine lv_goto (tgt := 2388) hx hb dL_law_1642 (by decide) ?_
    refine W.widen (k := cells + 870) (n := slots + 3850) (by omega) (by omega) ?_
    exact kk S (mf_payOut M (xs (i + 1)) (xs (i + 2))).2 H locs ls ⟨hCP2, ⟨g, h, v', rfl, hh, hR⟩, hM⟩ hS (lv_sub hl [2, 3, 4, 5, 6] rfl)
  · have hM := hM.kept (fun a ha hlt => hk a hlt (fun z => z.2 ha))
    obtain ⟨ht, hr, hCP2⟩ := hcl.2 r S' hxn
    refine lv_istore (lv' := [(5, .int 0), (4, .int (nI i)), (3, .ref o), (2, .ref ym), (1, .ref (g 0 0)), (0, .ref b)]) hx hb dL_law_1594 hl (by decide) rfl (fun ls hl => ?_)
    refine lv_aload_n hx hb dL_law_1596 rfl (lv_at hl 3 rfl) ?_
    refine lv_aload_n hx hb dL_law_1597 rfl (lv_at hl 5 rfl) ?_
    refine lv_iload hx hb dL_law_1598 (lv_at hl 1 rfl) ?_
    refine lv_iconst (v := nI 1) hx hb dL_law_1600 (by decide) ?_
    refine sc_ld hx hb hX hbl hS (show i + 1 < Ln by omega) hLn dL_law_1601 dL_law_1602 ?_
    refine lv_aload_n hx hb dL_law_1603 rfl (lv_at hl 5 rfl) ?_
    refine lv_iload hx hb dL_law_1604 (lv_at hl 1 rfl) ?_
    refine lv_iconst (v := nI 2) hx hb dL_law_1606 (by decide) ?_
    refine sc_ld hx hb hX hbl hS (show i + 2 < Ln by omega) hLn dL_law_1607 dL_law_1608 ?_
    refine mr_calli (As := [.int (xs (i + 1)), .int (xs (i + 2))]) (rest := []) ⟨hx, hb, hml, hown, hts⟩ (mt_payOut l E ym ad L M (xs (i + 1)) (xs (i + 2))) (cwV 2 hts (lw_V q1225 q1226 q1227 q41 q1228) rfl rfl rfl (by decide +kernel) ⟨Nat.le_of_ble_eq_true rfl, Nat.le_of_ble_eq_true rfl⟩) hmz hK.1 hM hL9 hS rfl hl.1 rfl (Nat.le_of_ble_eq_true rfl) dL_law_1609 ⟨(show _ ≤ 1200384 by omega), (show _ ≤ 5490858 by omega)⟩ (fun H locs hM hS hz hk => ?_)
    have hR := hR.kept (fun a ha hlt => hk a hlt (fun z => ha.2 z))
    refine W.eq (g2 := F0 m 1612 ls [.int (mf_payOut M (xs (i + 1)) (xs (i + 2))).1]) rfl ?_
    refine lv_istore (lv' := [(6, .int (mf_payOut M (xs (i + 1)) (xs (i + 2))).1), (5, .int 0), (4, .int (nI i)), (3, .ref o), (2, .ref ym), (1, .ref (g 0 0)), (0, .ref b)]) hx hb dL_law_1612 hl (by decide) rfl (fun ls hl => ?_)
    refine lv_aload_n hx hb dL_law_1614 rfl (lv_at hl 4 rfl) ?_
    refine mr_calli (As := []) (rest := []) ⟨hx, hb, hml, hown, hts⟩ (mt_thrown l E ym ad L (mf_payOut M (xs (i + 1)) (xs (i + 2))).2) (cwV 0 hts (lw_V q1067 q1068 q1069 q41 q1070) rfl rfl rfl (by decide +kernel) ⟨Nat.le_of_ble_eq_true rfl, Nat.le_of_ble_eq_true rfl⟩) trivial hK.1 hM hL9 hS rfl hl.1 rfl (Nat.le_of_ble_eq_true rfl) dL_law_1615 ⟨(show _ ≤ 1200384 by omega), (show _ ≤ 5490858 by omega)⟩ (fun H locs hM hS hz hk => ?_)
    have hR := hR.kept (fun a ha hlt => hk a hlt (fun z => ha.2 z))
    refine W.eq (g2 := F0 m 1618 ls [.int (mf_thrown (mf_payOut M (xs (i + 1)) (xs (i + 2))).2)]) rfl ?_
    refine lv_iload hx hb dL_law_1618 (lv_at hl 1 rfl) ?_
    refine lv_icmp_eq (tgt := 1625) hx hb dL_law_1620 (by decide) (fun _ => ?_) (fun h => absurd ht h)
    refine lv_iload hx hb dL_law_1625 (lv_at hl 1 rfl) ?_
    refine lv_if_ne (tgt := 1642) hx hb dL_law_1627 (by decide) (fun h => absurd rfl h) (fun _ => ?_)
    refine lv_aload_n hx hb dL_law_1630 rfl (lv_at hl 3 rfl) ?_
    refine lv_iconst (v := 0) hx hb dL_law_1631 (by decide) ?_
    refine xo_lald hx hb hK.1 hR dL_law_1632 ?_
    refine lv_iload hx hb dL_law_1633 (lv_at hl 0 rfl) ?_
    refine lv_i2l (v := (mf_payOut M (xs (i + 1)) (xs (i + 2))).1.toInt64) hx hb dL_law_1635 rfl ?_
    have hvv : v' 0 = (mf_payOut M (xs (i + 1)) (xs (i + 2))).1.toInt64 := by rw [hv', hr]
    refine W.eq (g2 := F0 m 1636 ls [.long ((mf_payOut M (xs (i + 1)) (xs (i + 2))).1.toInt64), .long ((mf_payOut M (xs (i + 1)) (xs (i + 2))).1.toInt64)]) (congrArg (fun z => F0 m 1636 ls [.long ((mf_payOut M (xs (i + 1)) (xs (i + 2))).1.toInt64), .long z]) hvv) ?_
    refine lv_lcmpE hx hb dL_law_1636 ?_
    refine lv_if_eq (tgt := 1642) hx hb dL_law_1637 (by decide) (fun _ => ?_) (fun h => absurd rfl h)
    refine lv_goto (tgt := 2388) hx hb dL_law_1642 (by decide) ?_
    refine W.widen (k := cells + 870) (n := slots + 3850) (by omega) (by omega) ?_
    exact kk S' (mf_payOut M (xs (i + 1)) (xs (i + 2))).2 H locs ls ⟨hCP2, ⟨g', h', v', hg0, hh', hR⟩, hM⟩ hS (lv_sub hl [2, 3, 4, 5, 6] rfl)
set_option maxHeartbeats 2000000 in
set_option maxRecDepth 100000 in
theorem lc_pass {CP : gs_T → gs_T → Prop} (hCPi : ∀ S M, CP S M → xi_ok S ∧ mi_ok M) (hc : ∀ S M (p1 : Int32), CP S M → cl_P CP ["java/lang/IllegalArgumentException", "java/lang/IllegalStateException"] (xp_pass S p1) (mf_pass M p1).1 (mf_pass M p1).2 S) {l : Launch} {p : Program} {e : Env} {s : State} {m : MethodId} {below : List Frame} {meth : Method} {c : Code} {H : Heap} {locs : List Loc} {cells slots : Nat} {Q : State → Prop} {ls : Array Slot} {b Ln i : Nat} {xs : Nat → Int32} {E : en_T} {C : ex_C} {x0 ym o : Nat} {ad : Nat → Nat} {L : List Nat} {S M : gs_T} (hE : le_E l p s m meth c b Ln xs E C ym L) (hi : i + 8 ≤ Ln) (hW : LW CP E C s x0 ym o ad L S M H) (hS : va_S (la_9 s) s.heap H locs) (hl : lv_has ls 7 [(4, .int (nI i)), (3, .ref o), (2, .ref ym), (1, .ref x0), (0, .ref b)]) (hf : cells + 870 ≤ 1200384 ∧ slots + 3850 ≤ 5490858) (kk : ∀ (S' M' : gs_T) (H' : Heap) (locs' : List Loc) (ls' : Array Slot), LW CP E C s x0 ym o ad L S' M' H' → va_S (la_9 s) s.heap H' locs' → lv_has ls' 7 [(4, .int (nI i)), (3, .ref o), (2, .ref ym), (1, .ref x0), (0, .ref b)] → W p l e room_1 s m #[.ref b] below meth c H' locs' (cells + 870) (slots + 3850) Q (F0 m 2388 ls' [])) : W p l e room_1 s m #[.ref b] below meth c H locs cells slots Q (F0 m 1645 ls []) := by
  obtain ⟨hx, hb, hml, hown, hts, hX, hbl, hK, hN, hZ, hfl, hL9, hLn⟩ := hE
  obtain ⟨hCP, ⟨g, h, v, hg0, hh, hR⟩, hM⟩ := hW
  obtain ⟨hI, hmi⟩ := hCPi S M hCP
  subst hg0
  refine lv_aload_n hx hb dL_law_1645 rfl (lv_at hl 3 rfl) ?_
  refine lv_aload_n hx hb dL_law_1646 rfl (lv_at hl 4 rfl) ?_
  refine lv_iload hx hb dL_law_1647 (lv_at hl 0 rfl) ?_
  refine lv_iconst (v := nI 1) hx hb dL_law_1649 (by decide) ?_
  refine sc_ld hx hb hX hbl hS (show i + 1 < Ln by omega) hLn dL_law_1650 dL_law_1651 ?_
  refine lv_aload_n hx hb dL_law_1652 rfl (lv_at hl 1 rfl) ?_
  have hcl := hc S M (xs (i + 1)) hCP
  have hmz : mi_ok M := hmi
  refine ls_S (As := [.ref (g 0 0), .int (xs (i + 1)), .ref o]) (rest := []) hK hN hZ hS (fun _ h => h.1) (la_new hS.1 (mr_lt hM)) hR ⟨hI, hh⟩ (wt_pass l hfl E C (la_A s L) H.size g h S o v (xs (i + 1))) ⟨hx, hb, hml, hown, hts⟩ (vx_cwSW 3 hts (lw_SW q852 q853 q32 q854) rfl rfl rfl (by decide +kernel) ⟨Nat.le_of_ble_eq_true rfl, Nat.le_of_ble_eq_true rfl⟩) rfl hl.1 rfl (Nat.le_of_ble_eq_true rfl) dL_law_1653 ⟨(show _ ≤ 1200384 by omega), (show _ ≤ 5490858 by omega)⟩ (fun Xn ix v' H locs hxn hix hR hz hk hS => ?_) (fun r S' g' h' v' H locs hxn hg0 hh' hv' hR hz hk hS => ?_)
  · have hM := hM.kept (fun a ha hlt => hk a hlt (fun z => z.2 ha))
    obtain ⟨j, hj, ht, hCP2⟩ := hcl.1 Xn hxn
    have ej := li_ne (by decide) hix hj
    rw [← ej] at ht
    refine lv_istore (lv' := [(5, .int (nI (ix + 1))), (4, .int (nI i)), (3, .ref o), (2, .ref ym), (1, .ref (g 0 0)), (0, .ref b)]) hx hb dL_law_1656 hl (by decide) rfl (fun ls hl => ?_)
    refine lv_aload_n hx hb dL_law_1658 rfl (lv_at hl 3 rfl) ?_
    refine lv_aload_n hx hb dL_law_1659 rfl (lv_at hl 5 rfl) ?_
    refine lv_iload hx hb dL_law_1660 (lv_at hl 1 rfl) ?_
    refine lv_iconst (v := nI 1) hx hb dL_law_1662 (by decide) ?_
    refine sc_ld hx hb hX hbl hS (show i + 1 < Ln by omega) hLn dL_law_1663 dL_law_1664 ?_
    refine mr_calli (As := [.int (xs (i + 1))]) (rest := []) ⟨hx, hb, hml, hown, hts⟩ (mt_pass l E ym ad L M (xs (i + 1))) (cwV 1 hts (lw_V q1229 q1230 q1231 q41 q1232) rfl rfl rfl (by decide +kernel) ⟨Nat.le_of_ble_eq_true rfl, Nat.le_of_ble_eq_true rfl⟩) hmz hK.1 hM hL9 hS rfl hl.1 rfl (Nat.le_of_ble_eq_true rfl) dL_law_1665 ⟨(show _ ≤ 1200384 by omega), (show _ ≤ 5490858 by omega)⟩ (fun H locs hM hS hz hk => ?_)
    have hR := hR.kept (fun a ha hlt => hk a hlt (fun z => ha.2 z))
    refine W.eq (g2 := F0 m 1668 ls [.int (mf_pass M (xs (i + 1))).1]) rfl ?_
    refine lv_istore (lv' := [(6, .int (mf_pass M (xs (i + 1))).1), (5, .int (nI (ix + 1))), (4, .int (nI i)), (3, .ref o), (2, .ref ym), (1, .ref (g 0 0)), (0, .ref b)]) hx hb dL_law_1668 hl (by decide) rfl (fun ls hl => ?_)
    refine lv_aload_n hx hb dL_law_1670 rfl (lv_at hl 4 rfl) ?_
    refine mr_calli (As := []) (rest := []) ⟨hx, hb, hml, hown, hts⟩ (mt_thrown l E ym ad L (mf_pass M (xs (i + 1))).2) (cwV 0 hts (lw_V q1067 q1068 q1069 q41 q1070) rfl rfl rfl (by decide +kernel) ⟨Nat.le_of_ble_eq_true rfl, Nat.le_of_ble_eq_true rfl⟩) trivial hK.1 hM hL9 hS rfl hl.1 rfl (Nat.le_of_ble_eq_true rfl) dL_law_1671 ⟨(show _ ≤ 1200384 by omega), (show _ ≤ 5490858 by omega)⟩ (fun H locs hM hS hz hk => ?_)
    have hR := hR.kept (fun a ha hlt => hk a hlt (fun z => ha.2 z))
    refine W.eq (g2 := F0 m 1674 ls [.int (mf_thrown (mf_pass M (xs (i + 1))).2)]) rfl ?_
    refine lv_iload hx hb dL_law_1674 (lv_at hl 1 rfl) ?_
    refine lv_icmp_eq (tgt := 1681) hx hb dL_law_1676 (by decide) (fun _ => ?_) (fun h => absurd ht h)
    refine lv_iload hx hb dL_law_1681 (lv_at hl 1 rfl) ?_
    refine lv_if_ne (tgt := 1698) hx hb dL_law_1683 (by decide) (fun _ => ?_) (fun h => absurd h (li_n0 (by decide) hix))
    refine lv_goto (tgt := 2388) hx hb dL_law_1698 (by decide) ?_
    refine W.widen (k := cells + 870) (n := slots + 3850) (by omega) (by omega) ?_
    exact kk S (mf_pass M (xs (i + 1))).2 H locs ls ⟨hCP2, ⟨g, h, v', rfl, hh, hR⟩, hM⟩ hS (lv_sub hl [2, 3, 4, 5, 6] rfl)
  · have hM := hM.kept (fun a ha hlt => hk a hlt (fun z => z.2 ha))
    obtain ⟨ht, hr, hCP2⟩ := hcl.2 r S' hxn
    refine lv_istore (lv' := [(5, .int 0), (4, .int (nI i)), (3, .ref o), (2, .ref ym), (1, .ref (g 0 0)), (0, .ref b)]) hx hb dL_law_1656 hl (by decide) rfl (fun ls hl => ?_)
    refine lv_aload_n hx hb dL_law_1658 rfl (lv_at hl 3 rfl) ?_
    refine lv_aload_n hx hb dL_law_1659 rfl (lv_at hl 5 rfl) ?_
    refine lv_iload hx hb dL_law_1660 (lv_at hl 1 rfl) ?_
    refine lv_iconst (v := nI 1) hx hb dL_law_1662 (by decide) ?_
    refine sc_ld hx hb hX hbl hS (show i + 1 < Ln by omega) hLn dL_law_1663 dL_law_1664 ?_
    refine mr_calli (As := [.int (xs (i + 1))]) (rest := []) ⟨hx, hb, hml, hown, hts⟩ (mt_pass l E ym ad L M (xs (i + 1))) (cwV 1 hts (lw_V q1229 q1230 q1231 q41 q1232) rfl rfl rfl (by decide +kernel) ⟨Nat.le_of_ble_eq_true rfl, Nat.le_of_ble_eq_true rfl⟩) hmz hK.1 hM hL9 hS rfl hl.1 rfl (Nat.le_of_ble_eq_true rfl) dL_law_1665 ⟨(show _ ≤ 1200384 by omega), (show _ ≤ 5490858 by omega)⟩ (fun H locs hM hS hz hk => ?_)
    have hR := hR.kept (fun a ha hlt => hk a hlt (fun z => ha.2 z))
    refine W.eq (g2 := F0 m 1668 ls [.int (mf_pass M (xs (i + 1))).1]) rfl ?_
    refine lv_istore (lv' := [(6, .int (mf_pass M (xs (i + 1))).1), (5, .int 0), (4, .int (nI i)), (3, .ref o), (2, .ref ym), (1, .ref (g 0 0)), (0, .ref b)]) hx hb dL_law_1668 hl (by decide) rfl (fun ls hl => ?_)
    refine lv_aload_n hx hb dL_law_1670 rfl (lv_at hl 4 rfl) ?_
    refine mr_calli (As := []) (rest := []) ⟨hx, hb, hml, hown, hts⟩ (mt_thrown l E ym ad L (mf_pass M (xs (i + 1))).2) (cwV 0 hts (lw_V q1067 q1068 q1069 q41 q1070) rfl rfl rfl (by decide +kernel) ⟨Nat.le_of_ble_eq_true rfl, Nat.le_of_ble_eq_true rfl⟩) trivial hK.1 hM hL9 hS rfl hl.1 rfl (Nat.le_of_ble_eq_true rfl) dL_law_1671 ⟨(show _ ≤ 1200384 by omega), (show _ ≤ 5490858 by omega)⟩ (fun H locs hM hS hz hk => ?_)
    have hR := hR.kept (fun a ha hlt => hk a hlt (fun z => ha.2 z))
    refine W.eq (g2 := F0 m 1674 ls [.int (mf_thrown (mf_pass M (xs (i + 1))).2)]) rfl ?_
    refine lv_iload hx hb dL_law_1674 (lv_at hl 1 rfl) ?_
    refine lv_icmp_eq (tgt := 1681) hx hb dL_law_1676 (by decide) (fun _ => ?_) (fun h => absurd ht h)
    refine lv_iload hx hb dL_law_1681 (lv_at hl 1 rfl) ?_
    refine lv_if_ne (tgt := 1698) hx hb dL_law_1683 (by decide) (fun h => absurd rfl h) (fun _ => ?_)
    refine lv_aload_n hx hb dL_law_1686 rfl (lv_at hl 3 rfl) ?_
    refine lv_iconst (v := 0) hx hb dL_law_1687 (by decide) ?_
    refine xo_lald hx hb hK.1 hR dL_law_1688 ?_
    refine lv_iload hx hb dL_law_1689 (lv_at hl 0 rfl) ?_
    refine lv_i2l (v := (mf_pass M (xs (i + 1))).1.toInt64) hx hb dL_law_1691 rfl ?_
    have hvv : v' 0 = (mf_pass M (xs (i + 1))).1.toInt64 := by rw [hv', hr]
    refine W.eq (g2 := F0 m 1692 ls [.long ((mf_pass M (xs (i + 1))).1.toInt64), .long ((mf_pass M (xs (i + 1))).1.toInt64)]) (congrArg (fun z => F0 m 1692 ls [.long ((mf_pass M (xs (i + 1))).1.toInt64), .long z]) hvv) ?_
    refine lv_lcmpE hx hb dL_law_1692 ?_
    refine lv_if_eq (tgt := 1698) hx hb dL_law_1693 (by decide) (fun _ => ?_) (fun h => absurd rfl h)
    refine lv_goto (tgt := 2388) hx hb dL_law_1698 (by decide) ?_
    refine W.widen (k := cells + 870) (n := slots + 3850) (by omega) (by omega) ?_
    exact kk S' (mf_pass M (xs (i + 1))).2 H locs ls ⟨hCP2, ⟨g', h', v', hg0, hh', hR⟩, hM⟩ hS (lv_sub hl [2, 3, 4, 5, 6] rfl)
set_option maxHeartbeats 2000000 in
set_option maxRecDepth 100000 in
theorem lc_today {CP : gs_T → gs_T → Prop} (hCPi : ∀ S M, CP S M → xi_ok S ∧ mi_ok M) (hc : ∀ S M, CP S M → S 0 0 = (mf_today M).1 ∧ CP S (mf_today M).2) {l : Launch} {p : Program} {e : Env} {s : State} {m : MethodId} {below : List Frame} {meth : Method} {c : Code} {H : Heap} {locs : List Loc} {cells slots : Nat} {Q : State → Prop} {ls : Array Slot} {b Ln i : Nat} {xs : Nat → Int32} {E : en_T} {C : ex_C} {x0 ym o : Nat} {ad : Nat → Nat} {L : List Nat} {S M : gs_T} (hE : le_E l p s m meth c b Ln xs E C ym L) (hi : i + 8 ≤ Ln) (hW : LW CP E C s x0 ym o ad L S M H) (hS : va_S (la_9 s) s.heap H locs) (hl : lv_has ls 7 [(4, .int (nI i)), (3, .ref o), (2, .ref ym), (1, .ref x0), (0, .ref b)]) (hf : cells + 870 ≤ 1200384 ∧ slots + 3850 ≤ 5490858) (kk : ∀ (S' M' : gs_T) (H' : Heap) (locs' : List Loc) (ls' : Array Slot), LW CP E C s x0 ym o ad L S' M' H' → va_S (la_9 s) s.heap H' locs' → lv_has ls' 7 [(4, .int (nI i)), (3, .ref o), (2, .ref ym), (1, .ref x0), (0, .ref b)] → W p l e room_1 s m #[.ref b] below meth c H' locs' (cells + 870) (slots + 3850) Q (F0 m 2388 ls' [])) : W p l e room_1 s m #[.ref b] below meth c H locs cells slots Q (F0 m 1701 ls []) := by
  obtain ⟨hx, hb, hml, hown, hts, hX, hbl, hK, hN, hZ, hfl, hL9, hLn⟩ := hE
  obtain ⟨hCP, ⟨g, h, v, hg0, hh, hR⟩, hM⟩ := hW
  obtain ⟨hI, hmi⟩ := hCPi S M hCP
  subst hg0
  refine lv_aload_n hx hb dL_law_1701 rfl (lv_at hl 3 rfl) ?_
  have hRx := nk_x xok_9 hR
  refine cq_VA (A2 := fun a => la_A s L a ∧ a ≠ o) (v := some (.int (S 0 0))) (As := []) (rest := []) hK hZ (fun _ h => h) hS (fun _ h => h.1.1) (fun a ha => ⟨la_new hS.1 (mr_lt hM) a ha, (nk_new (H0 := H) (fun a ha => la_new hS.1 (mr_lt hM) a ha) (Nat.le_refl _) hR a ha).2⟩) hRx trivial (xt_today l E C (fun a => la_A s L a ∧ a ≠ o) H.size g h S) (fun a ha => Nat.le_trans hS.1 ha) ⟨hx, hb, hml, hown, hts⟩ (cwV 0 hts (lw_V q206 q207 q208 q33 q209) rfl rfl rfl (by decide +kernel) ⟨Nat.le_of_ble_eq_true rfl, Nat.le_of_ble_eq_true rfl⟩) (kw_recv (t := 0) (i := 0) hK.1 hRx rfl rfl rfl) rfl hl.1 rfl (Nat.le_of_ble_eq_true rfl) dL_law_1702 ⟨(show _ ≤ 1200384 by omega), (show _ ≤ 5490858 by omega)⟩ (fun H locs hB hz hk hS => ?_)
  have hR := hR.kept (fun a _ hlt => hk a hlt (Nat.not_le.mpr hlt))
  have hM := hM.kept (fun a _ hlt => hk a hlt (Nat.not_le.mpr hlt))
  refine W.eq (g2 := F0 m 1705 ls [.int (S 0 0)]) rfl ?_
  obtain ⟨hv, hCP2⟩ := hc S M hCP
  refine lv_aload_n hx hb dL_law_1705 rfl (lv_at hl 2 rfl) ?_
  refine mr_calli (As := []) (rest := [.int (S 0 0)]) ⟨hx, hb, hml, hown, hts⟩ (mt_today l E ym ad L M) (cwV 0 hts (lw_V q1237 q1238 q1239 q41 q1240) rfl rfl rfl (by decide +kernel) ⟨Nat.le_of_ble_eq_true rfl, Nat.le_of_ble_eq_true rfl⟩) trivial hK.1 hM hL9 hS rfl hl.1 rfl (Nat.le_of_ble_eq_true rfl) dL_law_1706 ⟨(show _ ≤ 1200384 by omega), (show _ ≤ 5490858 by omega)⟩ (fun H locs hM hS hz hk => ?_)
  have hR := hR.kept (fun a ha hlt => hk a hlt (fun z => ha.2 z))
  refine W.eq (g2 := F0 m 1709 ls [.int (mf_today M).1, .int (S 0 0)]) rfl ?_
  refine lv_icmp_eq (tgt := 2388) hx hb dL_law_1709 (by decide) (fun _ => ?_) (fun h => absurd hv h)
  refine W.widen (k := cells + 870) (n := slots + 3850) (by omega) (by omega) ?_
  exact kk S (mf_today M).2 H locs ls ⟨hCP2, ⟨g, h, v, rfl, hh, hR⟩, hM⟩ hS (lv_sub hl [0, 1, 2, 3, 4] rfl)
set_option maxHeartbeats 2000000 in
set_option maxRecDepth 100000 in
theorem lc_fit {CP : gs_T → gs_T → Prop} (hCPi : ∀ S M, CP S M → xi_ok S ∧ mi_ok M) (hc : ∀ S M (p1 : Int32) (p2 : Int32), CP S M → cl_P CP ["java/lang/IndexOutOfBoundsException"] (xp_fit S p1 p2) (mf_fit M p1 p2).1 (mf_fit M p1 p2).2 S) {l : Launch} {p : Program} {e : Env} {s : State} {m : MethodId} {below : List Frame} {meth : Method} {c : Code} {H : Heap} {locs : List Loc} {cells slots : Nat} {Q : State → Prop} {ls : Array Slot} {b Ln i : Nat} {xs : Nat → Int32} {E : en_T} {C : ex_C} {x0 ym o : Nat} {ad : Nat → Nat} {L : List Nat} {S M : gs_T} (hE : le_E l p s m meth c b Ln xs E C ym L) (hi : i + 8 ≤ Ln) (hW : LW CP E C s x0 ym o ad L S M H) (hS : va_S (la_9 s) s.heap H locs) (hl : lv_has ls 7 [(4, .int (nI i)), (3, .ref o), (2, .ref ym), (1, .ref x0), (0, .ref b)]) (hf : cells + 870 ≤ 1200384 ∧ slots + 3850 ≤ 5490858) (kk : ∀ (S' M' : gs_T) (H' : Heap) (locs' : List Loc) (ls' : Array Slot), LW CP E C s x0 ym o ad L S' M' H' → va_S (la_9 s) s.heap H' locs' → lv_has ls' 7 [(4, .int (nI i)), (3, .ref o), (2, .ref ym), (1, .ref x0), (0, .ref b)] → W p l e room_1 s m #[.ref b] below meth c H' locs' (cells + 870) (slots + 3850) Q (F0 m 2388 ls' [])) : W p l e room_1 s m #[.ref b] below meth c H locs cells slots Q (F0 m 1714 ls []) := by
  obtain ⟨hx, hb, hml, hown, hts, hX, hbl, hK, hN, hZ, hfl, hL9, hLn⟩ := hE
  obtain ⟨hCP, ⟨g, h, v, hg0, hh, hR⟩, hM⟩ := hW
  obtain ⟨hI, hmi⟩ := hCPi S M hCP
  subst hg0
  refine lv_aload_n hx hb dL_law_1714 rfl (lv_at hl 3 rfl) ?_
  refine lv_aload_n hx hb dL_law_1715 rfl (lv_at hl 4 rfl) ?_
  refine lv_iload hx hb dL_law_1716 (lv_at hl 0 rfl) ?_
  refine lv_iconst (v := nI 1) hx hb dL_law_1718 (by decide) ?_
  refine sc_ld hx hb hX hbl hS (show i + 1 < Ln by omega) hLn dL_law_1719 dL_law_1720 ?_
  refine lv_aload_n hx hb dL_law_1721 rfl (lv_at hl 4 rfl) ?_
  refine lv_iload hx hb dL_law_1722 (lv_at hl 0 rfl) ?_
  refine lv_iconst (v := nI 2) hx hb dL_law_1724 (by decide) ?_
  refine sc_ld hx hb hX hbl hS (show i + 2 < Ln by omega) hLn dL_law_1725 dL_law_1726 ?_
  refine lv_aload_n hx hb dL_law_1727 rfl (lv_at hl 1 rfl) ?_
  have hcl := hc S M (xs (i + 1)) (xs (i + 2)) hCP
  have hmz : mi_ok M := hmi
  refine ls_S (As := [.ref (g 0 0), .int (xs (i + 1)), .int (xs (i + 2)), .ref o]) (rest := []) hK hN hZ hS (fun _ h => h.1) (la_new hS.1 (mr_lt hM)) hR ⟨hI, hh⟩ (wt_fit l hfl E C (la_A s L) H.size g h S o v (xs (i + 1)) (xs (i + 2))) ⟨hx, hb, hml, hown, hts⟩ (vx_cwSW 4 hts (lw_SW q859 q860 q32 q861) rfl rfl rfl (by decide +kernel) ⟨Nat.le_of_ble_eq_true rfl, Nat.le_of_ble_eq_true rfl⟩) rfl hl.1 rfl (Nat.le_of_ble_eq_true rfl) dL_law_1728 ⟨(show _ ≤ 1200384 by omega), (show _ ≤ 5490858 by omega)⟩ (fun Xn ix v' H locs hxn hix hR hz hk hS => ?_) (fun r S' g' h' v' H locs hxn hg0 hh' hv' hR hz hk hS => ?_)
  · have hM := hM.kept (fun a ha hlt => hk a hlt (fun z => z.2 ha))
    obtain ⟨j, hj, ht, hCP2⟩ := hcl.1 Xn hxn
    have ej := li_ne (by decide) hix hj
    rw [← ej] at ht
    refine lv_istore (lv' := [(5, .int (nI (ix + 1))), (4, .int (nI i)), (3, .ref o), (2, .ref ym), (1, .ref (g 0 0)), (0, .ref b)]) hx hb dL_law_1731 hl (by decide) rfl (fun ls hl => ?_)
    refine lv_aload_n hx hb dL_law_1733 rfl (lv_at hl 3 rfl) ?_
    refine lv_aload_n hx hb dL_law_1734 rfl (lv_at hl 5 rfl) ?_
    refine lv_iload hx hb dL_law_1735 (lv_at hl 1 rfl) ?_
    refine lv_iconst (v := nI 1) hx hb dL_law_1737 (by decide) ?_
    refine sc_ld hx hb hX hbl hS (show i + 1 < Ln by omega) hLn dL_law_1738 dL_law_1739 ?_
    refine lv_aload_n hx hb dL_law_1740 rfl (lv_at hl 5 rfl) ?_
    refine lv_iload hx hb dL_law_1741 (lv_at hl 1 rfl) ?_
    refine lv_iconst (v := nI 2) hx hb dL_law_1743 (by decide) ?_
    refine sc_ld hx hb hX hbl hS (show i + 2 < Ln by omega) hLn dL_law_1744 dL_law_1745 ?_
    refine mr_calli (As := [.int (xs (i + 1)), .int (xs (i + 2))]) (rest := []) ⟨hx, hb, hml, hown, hts⟩ (mt_fit l E ym ad L M (xs (i + 1)) (xs (i + 2))) (cwV 2 hts (lw_V q1241 q1242 q1243 q41 q1244) rfl rfl rfl (by decide +kernel) ⟨Nat.le_of_ble_eq_true rfl, Nat.le_of_ble_eq_true rfl⟩) hmz hK.1 hM hL9 hS rfl hl.1 rfl (Nat.le_of_ble_eq_true rfl) dL_law_1746 ⟨(show _ ≤ 1200384 by omega), (show _ ≤ 5490858 by omega)⟩ (fun H locs hM hS hz hk => ?_)
    have hR := hR.kept (fun a ha hlt => hk a hlt (fun z => ha.2 z))
    refine W.eq (g2 := F0 m 1749 ls [.int (mf_fit M (xs (i + 1)) (xs (i + 2))).1]) rfl ?_
    refine lv_istore (lv' := [(6, .int (mf_fit M (xs (i + 1)) (xs (i + 2))).1), (5, .int (nI (ix + 1))), (4, .int (nI i)), (3, .ref o), (2, .ref ym), (1, .ref (g 0 0)), (0, .ref b)]) hx hb dL_law_1749 hl (by decide) rfl (fun ls hl => ?_)
    refine lv_aload_n hx hb dL_law_1751 rfl (lv_at hl 4 rfl) ?_
    refine mr_calli (As := []) (rest := []) ⟨hx, hb, hml, hown, hts⟩ (mt_thrown l E ym ad L (mf_fit M (xs (i + 1)) (xs (i + 2))).2) (cwV 0 hts (lw_V q1067 q1068 q1069 q41 q1070) rfl rfl rfl (by decide +kernel) ⟨Nat.le_of_ble_eq_true rfl, Nat.le_of_ble_eq_true rfl⟩) trivial hK.1 hM hL9 hS rfl hl.1 rfl (Nat.le_of_ble_eq_true rfl) dL_law_1752 ⟨(show _ ≤ 1200384 by omega), (show _ ≤ 5490858 by omega)⟩ (fun H locs hM hS hz hk => ?_)
    have hR := hR.kept (fun a ha hlt => hk a hlt (fun z => ha.2 z))
    refine W.eq (g2 := F0 m 1755 ls [.int (mf_thrown (mf_fit M (xs (i + 1)) (xs (i + 2))).2)]) rfl ?_
    refine lv_iload hx hb dL_law_1755 (lv_at hl 1 rfl) ?_
    refine lv_icmp_eq (tgt := 1762) hx hb dL_law_1757 (by decide) (fun _ => ?_) (fun h => absurd ht h)
    refine lv_iload hx hb dL_law_1762 (lv_at hl 1 rfl) ?_
    refine lv_if_ne (tgt := 1779) hx hb dL_law_1764 (by decide) (fun _ => ?_) (fun h => absurd h (li_n0 (by decide) hix))
    refine lv_goto (tgt := 2388) hx hb dL_law_1779 (by decide) ?_
    refine W.widen (k := cells + 870) (n := slots + 3850) (by omega) (by omega) ?_
    exact kk S (mf_fit M (xs (i + 1)) (xs (i + 2))).2 H locs ls ⟨hCP2, ⟨g, h, v', rfl, hh, hR⟩, hM⟩ hS (lv_sub hl [2, 3, 4, 5, 6] rfl)
  · have hM := hM.kept (fun a ha hlt => hk a hlt (fun z => z.2 ha))
    obtain ⟨ht, hr, hCP2⟩ := hcl.2 r S' hxn
    refine lv_istore (lv' := [(5, .int 0), (4, .int (nI i)), (3, .ref o), (2, .ref ym), (1, .ref (g 0 0)), (0, .ref b)]) hx hb dL_law_1731 hl (by decide) rfl (fun ls hl => ?_)
    refine lv_aload_n hx hb dL_law_1733 rfl (lv_at hl 3 rfl) ?_
    refine lv_aload_n hx hb dL_law_1734 rfl (lv_at hl 5 rfl) ?_
    refine lv_iload hx hb dL_law_1735 (lv_at hl 1 rfl) ?_
    refine lv_iconst (v := nI 1) hx hb dL_law_1737 (by decide) ?_
    refine sc_ld hx hb hX hbl hS (show i + 1 < Ln by omega) hLn dL_law_1738 dL_law_1739 ?_
    refine lv_aload_n hx hb dL_law_1740 rfl (lv_at hl 5 rfl) ?_
    refine lv_iload hx hb dL_law_1741 (lv_at hl 1 rfl) ?_
    refine lv_iconst (v := nI 2) hx hb dL_law_1743 (by decide) ?_
    refine sc_ld hx hb hX hbl hS (show i + 2 < Ln by omega) hLn dL_law_1744 dL_law_1745 ?_
    refine mr_calli (As := [.int (xs (i + 1)), .int (xs (i + 2))]) (rest := []) ⟨hx, hb, hml, hown, hts⟩ (mt_fit l E ym ad L M (xs (i + 1)) (xs (i + 2))) (cwV 2 hts (lw_V q1241 q1242 q1243 q41 q1244) rfl rfl rfl (by decide +kernel) ⟨Nat.le_of_ble_eq_true rfl, Nat.le_of_ble_eq_true rfl⟩) hmz hK.1 hM hL9 hS rfl hl.1 rfl (Nat.le_of_ble_eq_true rfl) dL_law_1746 ⟨(show _ ≤ 1200384 by omega), (show _ ≤ 5490858 by omega)⟩ (fun H locs hM hS hz hk => ?_)
    have hR := hR.kept (fun a ha hlt => hk a hlt (fun z => ha.2 z))
    refine W.eq (g2 := F0 m 1749 ls [.int (mf_fit M (xs (i + 1)) (xs (i + 2))).1]) rfl ?_
    refine lv_istore (lv' := [(6, .int (mf_fit M (xs (i + 1)) (xs (i + 2))).1), (5, .int 0), (4, .int (nI i)), (3, .ref o), (2, .ref ym), (1, .ref (g 0 0)), (0, .ref b)]) hx hb dL_law_1749 hl (by decide) rfl (fun ls hl => ?_)
    refine lv_aload_n hx hb dL_law_1751 rfl (lv_at hl 4 rfl) ?_
    refine mr_calli (As := []) (rest := []) ⟨hx, hb, hml, hown, hts⟩ (mt_thrown l E ym ad L (mf_fit M (xs (i + 1)) (xs (i + 2))).2) (cwV 0 hts (lw_V q1067 q1068 q1069 q41 q1070) rfl rfl rfl (by decide +kernel) ⟨Nat.le_of_ble_eq_true rfl, Nat.le_of_ble_eq_true rfl⟩) trivial hK.1 hM hL9 hS rfl hl.1 rfl (Nat.le_of_ble_eq_true rfl) dL_law_1752 ⟨(show _ ≤ 1200384 by omega), (show _ ≤ 5490858 by omega)⟩ (fun H locs hM hS hz hk => ?_)
    have hR := hR.kept (fun a ha hlt => hk a hlt (fun z => ha.2 z))
    refine W.eq (g2 := F0 m 1755 ls [.int (mf_thrown (mf_fit M (xs (i + 1)) (xs (i + 2))).2)]) rfl ?_
    refine lv_iload hx hb dL_law_1755 (lv_at hl 1 rfl) ?_
    refine lv_icmp_eq (tgt := 1762) hx hb dL_law_1757 (by decide) (fun _ => ?_) (fun h => absurd ht h)
    refine lv_iload hx hb dL_law_1762 (lv_at hl 1 rfl) ?_
    refine lv_if_ne (tgt := 1779) hx hb dL_law_1764 (by decide) (fun h => absurd rfl h) (fun _ => ?_)
    refine lv_aload_n hx hb dL_law_1767 rfl (lv_at hl 3 rfl) ?_
    refine lv_iconst (v := 0) hx hb dL_law_1768 (by decide) ?_
    refine xo_lald hx hb hK.1 hR dL_law_1769 ?_
    refine lv_iload hx hb dL_law_1770 (lv_at hl 0 rfl) ?_
    refine lv_i2l (v := (mf_fit M (xs (i + 1)) (xs (i + 2))).1.toInt64) hx hb dL_law_1772 rfl ?_
    have hvv : v' 0 = (mf_fit M (xs (i + 1)) (xs (i + 2))).1.toInt64 := by rw [hv', hr]
    refine W.eq (g2 := F0 m 1773 ls [.long ((mf_fit M (xs (i + 1)) (xs (i + 2))).1.toInt64), .long ((mf_fit M (xs (i + 1)) (xs (i + 2))).1.toInt64)]) (congrArg (fun z => F0 m 1773 ls [.long ((mf_fit M (xs (i + 1)) (xs (i + 2))).1.toInt64), .long z]) hvv) ?_
    refine lv_lcmpE hx hb dL_law_1773 ?_
    refine lv_if_eq (tgt := 1779) hx hb dL_law_1774 (by decide) (fun _ => ?_) (fun h => absurd rfl h)
    refine lv_goto (tgt := 2388) hx hb dL_law_1779 (by decide) ?_
    refine W.widen (k := cells + 870) (n := slots + 3850) (by omega) (by omega) ?_
    exact kk S' (mf_fit M (xs (i + 1)) (xs (i + 2))).2 H locs ls ⟨hCP2, ⟨g', h', v', hg0, hh', hR⟩, hM⟩ hS (lv_sub hl [2, 3, 4, 5, 6] rfl)
set_option maxHeartbeats 2000000 in
set_option maxRecDepth 100000 in
theorem lc_candidate {CP : gs_T → gs_T → Prop} (hCPi : ∀ S M, CP S M → xi_ok S ∧ mi_ok M) (hc : ∀ S M (p1 : Int32) (p2 : Int32), CP S M → cl_P CP ["java/lang/IndexOutOfBoundsException"] (xp_candidate S p1 p2) (mf_candidate M p1 p2).1 (mf_candidate M p1 p2).2 S) {l : Launch} {p : Program} {e : Env} {s : State} {m : MethodId} {below : List Frame} {meth : Method} {c : Code} {H : Heap} {locs : List Loc} {cells slots : Nat} {Q : State → Prop} {ls : Array Slot} {b Ln i : Nat} {xs : Nat → Int32} {E : en_T} {C : ex_C} {x0 ym o : Nat} {ad : Nat → Nat} {L : List Nat} {S M : gs_T} (hE : le_E l p s m meth c b Ln xs E C ym L) (hi : i + 8 ≤ Ln) (hW : LW CP E C s x0 ym o ad L S M H) (hS : va_S (la_9 s) s.heap H locs) (hl : lv_has ls 7 [(4, .int (nI i)), (3, .ref o), (2, .ref ym), (1, .ref x0), (0, .ref b)]) (hf : cells + 870 ≤ 1200384 ∧ slots + 3850 ≤ 5490858) (kk : ∀ (S' M' : gs_T) (H' : Heap) (locs' : List Loc) (ls' : Array Slot), LW CP E C s x0 ym o ad L S' M' H' → va_S (la_9 s) s.heap H' locs' → lv_has ls' 7 [(4, .int (nI i)), (3, .ref o), (2, .ref ym), (1, .ref x0), (0, .ref b)] → W p l e room_1 s m #[.ref b] below meth c H' locs' (cells + 870) (slots + 3850) Q (F0 m 2388 ls' [])) : W p l e room_1 s m #[.ref b] below meth c H locs cells slots Q (F0 m 1782 ls []) := by
  obtain ⟨hx, hb, hml, hown, hts, hX, hbl, hK, hN, hZ, hfl, hL9, hLn⟩ := hE
  obtain ⟨hCP, ⟨g, h, v, hg0, hh, hR⟩, hM⟩ := hW
  obtain ⟨hI, hmi⟩ := hCPi S M hCP
  subst hg0
  refine lv_aload_n hx hb dL_law_1782 rfl (lv_at hl 3 rfl) ?_
  refine lv_aload_n hx hb dL_law_1783 rfl (lv_at hl 4 rfl) ?_
  refine lv_iload hx hb dL_law_1784 (lv_at hl 0 rfl) ?_
  refine lv_iconst (v := nI 1) hx hb dL_law_1786 (by decide) ?_
  refine sc_ld hx hb hX hbl hS (show i + 1 < Ln by omega) hLn dL_law_1787 dL_law_1788 ?_
  refine lv_aload_n hx hb dL_law_1789 rfl (lv_at hl 4 rfl) ?_
  refine lv_iload hx hb dL_law_1790 (lv_at hl 0 rfl) ?_
  refine lv_iconst (v := nI 2) hx hb dL_law_1792 (by decide) ?_
  refine sc_ld hx hb hX hbl hS (show i + 2 < Ln by omega) hLn dL_law_1793 dL_law_1794 ?_
  refine lv_aload_n hx hb dL_law_1795 rfl (lv_at hl 1 rfl) ?_
  have hcl := hc S M (xs (i + 1)) (xs (i + 2)) hCP
  have hmz : mi_ok M := hmi
  refine ls_S (As := [.ref (g 0 0), .int (xs (i + 1)), .int (xs (i + 2)), .ref o]) (rest := []) hK hN hZ hS (fun _ h => h.1) (la_new hS.1 (mr_lt hM)) hR ⟨hI, hh⟩ (wt_candidate l hfl E C (la_A s L) H.size g h S o v (xs (i + 1)) (xs (i + 2))) ⟨hx, hb, hml, hown, hts⟩ (vx_cwSW 4 hts (lw_SW q866 q867 q32 q868) rfl rfl rfl (by decide +kernel) ⟨Nat.le_of_ble_eq_true rfl, Nat.le_of_ble_eq_true rfl⟩) rfl hl.1 rfl (Nat.le_of_ble_eq_true rfl) dL_law_1796 ⟨(show _ ≤ 1200384 by omega), (show _ ≤ 5490858 by omega)⟩ (fun Xn ix v' H locs hxn hix hR hz hk hS => ?_) (fun r S' g' h' v' H locs hxn hg0 hh' hv' hR hz hk hS => ?_)
  · have hM := hM.kept (fun a ha hlt => hk a hlt (fun z => z.2 ha))
    obtain ⟨j, hj, ht, hCP2⟩ := hcl.1 Xn hxn
    have ej := li_ne (by decide) hix hj
    rw [← ej] at ht
    refine lv_istore (lv' := [(5, .int (nI (ix + 1))), (4, .int (nI i)), (3, .ref o), (2, .ref ym), (1, .ref (g 0 0)), (0, .ref b)]) hx hb dL_law_1799 hl (by decide) rfl (fun ls hl => ?_)
    refine lv_aload_n hx hb dL_law_1801 rfl (lv_at hl 3 rfl) ?_
    refine lv_aload_n hx hb dL_law_1802 rfl (lv_at hl 5 rfl) ?_
    refine lv_iload hx hb dL_law_1803 (lv_at hl 1 rfl) ?_
    refine lv_iconst (v := nI 1) hx hb dL_law_1805 (by decide) ?_
    refine sc_ld hx hb hX hbl hS (show i + 1 < Ln by omega) hLn dL_law_1806 dL_law_1807 ?_
    refine lv_aload_n hx hb dL_law_1808 rfl (lv_at hl 5 rfl) ?_
    refine lv_iload hx hb dL_law_1809 (lv_at hl 1 rfl) ?_
    refine lv_iconst (v := nI 2) hx hb dL_law_1811 (by decide) ?_
    refine sc_ld hx hb hX hbl hS (show i + 2 < Ln by omega) hLn dL_law_1812 dL_law_1813 ?_
    refine mr_calli (As := [.int (xs (i + 1)), .int (xs (i + 2))]) (rest := []) ⟨hx, hb, hml, hown, hts⟩ (mt_candidate l E ym ad L M (xs (i + 1)) (xs (i + 2))) (cwV 2 hts (lw_V q1245 q1246 q1247 q41 q1248) rfl rfl rfl (by decide +kernel) ⟨Nat.le_of_ble_eq_true rfl, Nat.le_of_ble_eq_true rfl⟩) hmz hK.1 hM hL9 hS rfl hl.1 rfl (Nat.le_of_ble_eq_true rfl) dL_law_1814 ⟨(show _ ≤ 1200384 by omega), (show _ ≤ 5490858 by omega)⟩ (fun H locs hM hS hz hk => ?_)
    have hR := hR.kept (fun a ha hlt => hk a hlt (fun z => ha.2 z))
    refine W.eq (g2 := F0 m 1817 ls [.int (mf_candidate M (xs (i + 1)) (xs (i + 2))).1]) rfl ?_
    refine lv_istore (lv' := [(6, .int (mf_candidate M (xs (i + 1)) (xs (i + 2))).1), (5, .int (nI (ix + 1))), (4, .int (nI i)), (3, .ref o), (2, .ref ym), (1, .ref (g 0 0)), (0, .ref b)]) hx hb dL_law_1817 hl (by decide) rfl (fun ls hl => ?_)
    refine lv_aload_n hx hb dL_law_1819 rfl (lv_at hl 4 rfl) ?_
    refine mr_calli (As := []) (rest := []) ⟨hx, hb, hml, hown, hts⟩ (mt_thrown l E ym ad L (mf_candidate M (xs (i + 1)) (xs (i + 2))).2) (cwV 0 hts (lw_V q1067 q1068 q1069 q41 q1070) rfl rfl rfl (by decide +kernel) ⟨Nat.le_of_ble_eq_true rfl, Nat.le_of_ble_eq_true rfl⟩) trivial hK.1 hM hL9 hS rfl hl.1 rfl (Nat.le_of_ble_eq_true rfl) dL_law_1820 ⟨(show _ ≤ 1200384 by omega), (show _ ≤ 5490858 by omega)⟩ (fun H locs hM hS hz hk => ?_)
    have hR := hR.kept (fun a ha hlt => hk a hlt (fun z => ha.2 z))
    refine W.eq (g2 := F0 m 1823 ls [.int (mf_thrown (mf_candidate M (xs (i + 1)) (xs (i + 2))).2)]) rfl ?_
    refine lv_iload hx hb dL_law_1823 (lv_at hl 1 rfl) ?_
    refine lv_icmp_eq (tgt := 1830) hx hb dL_law_1825 (by decide) (fun _ => ?_) (fun h => absurd ht h)
    refine lv_iload hx hb dL_law_1830 (lv_at hl 1 rfl) ?_
    refine lv_if_ne (tgt := 1847) hx hb dL_law_1832 (by decide) (fun _ => ?_) (fun h => absurd h (li_n0 (by decide) hix))
    refine lv_goto (tgt := 2388) hx hb dL_law_1847 (by decide) ?_
    refine W.widen (k := cells + 870) (n := slots + 3850) (by omega) (by omega) ?_
    exact kk S (mf_candidate M (xs (i + 1)) (xs (i + 2))).2 H locs ls ⟨hCP2, ⟨g, h, v', rfl, hh, hR⟩, hM⟩ hS (lv_sub hl [2, 3, 4, 5, 6] rfl)
  · have hM := hM.kept (fun a ha hlt => hk a hlt (fun z => z.2 ha))
    obtain ⟨ht, hr, hCP2⟩ := hcl.2 r S' hxn
    refine lv_istore (lv' := [(5, .int 0), (4, .int (nI i)), (3, .ref o), (2, .ref ym), (1, .ref (g 0 0)), (0, .ref b)]) hx hb dL_law_1799 hl (by decide) rfl (fun ls hl => ?_)
    refine lv_aload_n hx hb dL_law_1801 rfl (lv_at hl 3 rfl) ?_
    refine lv_aload_n hx hb dL_law_1802 rfl (lv_at hl 5 rfl) ?_
    refine lv_iload hx hb dL_law_1803 (lv_at hl 1 rfl) ?_
    refine lv_iconst (v := nI 1) hx hb dL_law_1805 (by decide) ?_
    refine sc_ld hx hb hX hbl hS (show i + 1 < Ln by omega) hLn dL_law_1806 dL_law_1807 ?_
    refine lv_aload_n hx hb dL_law_1808 rfl (lv_at hl 5 rfl) ?_
    refine lv_iload hx hb dL_law_1809 (lv_at hl 1 rfl) ?_
    refine lv_iconst (v := nI 2) hx hb dL_law_1811 (by decide) ?_
    refine sc_ld hx hb hX hbl hS (show i + 2 < Ln by omega) hLn dL_law_1812 dL_law_1813 ?_
    refine mr_calli (As := [.int (xs (i + 1)), .int (xs (i + 2))]) (rest := []) ⟨hx, hb, hml, hown, hts⟩ (mt_candidate l E ym ad L M (xs (i + 1)) (xs (i + 2))) (cwV 2 hts (lw_V q1245 q1246 q1247 q41 q1248) rfl rfl rfl (by decide +kernel) ⟨Nat.le_of_ble_eq_true rfl, Nat.le_of_ble_eq_true rfl⟩) hmz hK.1 hM hL9 hS rfl hl.1 rfl (Nat.le_of_ble_eq_true rfl) dL_law_1814 ⟨(show _ ≤ 1200384 by omega), (show _ ≤ 5490858 by omega)⟩ (fun H locs hM hS hz hk => ?_)
    have hR := hR.kept (fun a ha hlt => hk a hlt (fun z => ha.2 z))
    refine W.eq (g2 := F0 m 1817 ls [.int (mf_candidate M (xs (i + 1)) (xs (i + 2))).1]) rfl ?_
    refine lv_istore (lv' := [(6, .int (mf_candidate M (xs (i + 1)) (xs (i + 2))).1), (5, .int 0), (4, .int (nI i)), (3, .ref o), (2, .ref ym), (1, .ref (g 0 0)), (0, .ref b)]) hx hb dL_law_1817 hl (by decide) rfl (fun ls hl => ?_)
    refine lv_aload_n hx hb dL_law_1819 rfl (lv_at hl 4 rfl) ?_
    refine mr_calli (As := []) (rest := []) ⟨hx, hb, hml, hown, hts⟩ (mt_thrown l E ym ad L (mf_candidate M (xs (i + 1)) (xs (i + 2))).2) (cwV 0 hts (lw_V q1067 q1068 q1069 q41 q1070) rfl rfl rfl (by decide +kernel) ⟨Nat.le_of_ble_eq_true rfl, Nat.le_of_ble_eq_true rfl⟩) trivial hK.1 hM hL9 hS rfl hl.1 rfl (Nat.le_of_ble_eq_true rfl) dL_law_1820 ⟨(show _ ≤ 1200384 by omega), (show _ ≤ 5490858 by omega)⟩ (fun H locs hM hS hz hk => ?_)
    have hR := hR.kept (fun a ha hlt => hk a hlt (fun z => ha.2 z))
    refine W.eq (g2 := F0 m 1823 ls [.int (mf_thrown (mf_candidate M (xs (i + 1)) (xs (i + 2))).2)]) rfl ?_
    refine lv_iload hx hb dL_law_1823 (lv_at hl 1 rfl) ?_
    refine lv_icmp_eq (tgt := 1830) hx hb dL_law_1825 (by decide) (fun _ => ?_) (fun h => absurd ht h)
    refine lv_iload hx hb dL_law_1830 (lv_at hl 1 rfl) ?_
    refine lv_if_ne (tgt := 1847) hx hb dL_law_1832 (by decide) (fun h => absurd rfl h) (fun _ => ?_)
    refine lv_aload_n hx hb dL_law_1835 rfl (lv_at hl 3 rfl) ?_
    refine lv_iconst (v := 0) hx hb dL_law_1836 (by decide) ?_
    refine xo_lald hx hb hK.1 hR dL_law_1837 ?_
    refine lv_iload hx hb dL_law_1838 (lv_at hl 0 rfl) ?_
    refine lv_i2l (v := (mf_candidate M (xs (i + 1)) (xs (i + 2))).1.toInt64) hx hb dL_law_1840 rfl ?_
    have hvv : v' 0 = (mf_candidate M (xs (i + 1)) (xs (i + 2))).1.toInt64 := by rw [hv', hr]
    refine W.eq (g2 := F0 m 1841 ls [.long ((mf_candidate M (xs (i + 1)) (xs (i + 2))).1.toInt64), .long ((mf_candidate M (xs (i + 1)) (xs (i + 2))).1.toInt64)]) (congrArg (fun z => F0 m 1841 ls [.long ((mf_candidate M (xs (i + 1)) (xs (i + 2))).1.toInt64), .long z]) hvv) ?_
    refine lv_lcmpE hx hb dL_law_1841 ?_
    refine lv_if_eq (tgt := 1847) hx hb dL_law_1842 (by decide) (fun _ => ?_) (fun h => absurd rfl h)
    refine lv_goto (tgt := 2388) hx hb dL_law_1847 (by decide) ?_
    refine W.widen (k := cells + 870) (n := slots + 3850) (by omega) (by omega) ?_
    exact kk S' (mf_candidate M (xs (i + 1)) (xs (i + 2))).2 H locs ls ⟨hCP2, ⟨g', h', v', hg0, hh', hR⟩, hM⟩ hS (lv_sub hl [2, 3, 4, 5, 6] rfl)
set_option maxHeartbeats 2000000 in
set_option maxRecDepth 100000 in
theorem lc_question {CP : gs_T → gs_T → Prop} (hCPi : ∀ S M, CP S M → xi_ok S ∧ mi_ok M) (hc : ∀ S M (p1 : Int32), CP S M → cl_P CP ["java/lang/IndexOutOfBoundsException"] (xp_question S p1) (mf_question M p1).1 (mf_question M p1).2 S) {l : Launch} {p : Program} {e : Env} {s : State} {m : MethodId} {below : List Frame} {meth : Method} {c : Code} {H : Heap} {locs : List Loc} {cells slots : Nat} {Q : State → Prop} {ls : Array Slot} {b Ln i : Nat} {xs : Nat → Int32} {E : en_T} {C : ex_C} {x0 ym o : Nat} {ad : Nat → Nat} {L : List Nat} {S M : gs_T} (hE : le_E l p s m meth c b Ln xs E C ym L) (hi : i + 8 ≤ Ln) (hW : LW CP E C s x0 ym o ad L S M H) (hS : va_S (la_9 s) s.heap H locs) (hl : lv_has ls 7 [(4, .int (nI i)), (3, .ref o), (2, .ref ym), (1, .ref x0), (0, .ref b)]) (hf : cells + 870 ≤ 1200384 ∧ slots + 3850 ≤ 5490858) (kk : ∀ (S' M' : gs_T) (H' : Heap) (locs' : List Loc) (ls' : Array Slot), LW CP E C s x0 ym o ad L S' M' H' → va_S (la_9 s) s.heap H' locs' → lv_has ls' 7 [(4, .int (nI i)), (3, .ref o), (2, .ref ym), (1, .ref x0), (0, .ref b)] → W p l e room_1 s m #[.ref b] below meth c H' locs' (cells + 870) (slots + 3850) Q (F0 m 2388 ls' [])) : W p l e room_1 s m #[.ref b] below meth c H locs cells slots Q (F0 m 1850 ls []) := by
  obtain ⟨hx, hb, hml, hown, hts, hX, hbl, hK, hN, hZ, hfl, hL9, hLn⟩ := hE
  obtain ⟨hCP, ⟨g, h, v, hg0, hh, hR⟩, hM⟩ := hW
  obtain ⟨hI, hmi⟩ := hCPi S M hCP
  subst hg0
  refine lv_aload_n hx hb dL_law_1850 rfl (lv_at hl 3 rfl) ?_
  refine lv_aload_n hx hb dL_law_1851 rfl (lv_at hl 4 rfl) ?_
  refine lv_iload hx hb dL_law_1852 (lv_at hl 0 rfl) ?_
  refine lv_iconst (v := nI 1) hx hb dL_law_1854 (by decide) ?_
  refine sc_ld hx hb hX hbl hS (show i + 1 < Ln by omega) hLn dL_law_1855 dL_law_1856 ?_
  refine lv_aload_n hx hb dL_law_1857 rfl (lv_at hl 1 rfl) ?_
  have hcl := hc S M (xs (i + 1)) hCP
  have hmz : mi_ok M := hmi
  refine ls_S (As := [.ref (g 0 0), .int (xs (i + 1)), .ref o]) (rest := []) hK hN hZ hS (fun _ h => h.1) (la_new hS.1 (mr_lt hM)) hR ⟨hI, hh⟩ (wt_question l hfl E C (la_A s L) H.size g h S o v (xs (i + 1))) ⟨hx, hb, hml, hown, hts⟩ (vx_cwSW 3 hts (lw_SW q877 q878 q32 q879) rfl rfl rfl (by decide +kernel) ⟨Nat.le_of_ble_eq_true rfl, Nat.le_of_ble_eq_true rfl⟩) rfl hl.1 rfl (Nat.le_of_ble_eq_true rfl) dL_law_1858 ⟨(show _ ≤ 1200384 by omega), (show _ ≤ 5490858 by omega)⟩ (fun Xn ix v' H locs hxn hix hR hz hk hS => ?_) (fun r S' g' h' v' H locs hxn hg0 hh' hv' hR hz hk hS => ?_)
  · have hM := hM.kept (fun a ha hlt => hk a hlt (fun z => z.2 ha))
    obtain ⟨j, hj, ht, hCP2⟩ := hcl.1 Xn hxn
    have ej := li_ne (by decide) hix hj
    rw [← ej] at ht
    refine lv_istore (lv' := [(5, .int (nI (ix + 1))), (4, .int (nI i)), (3, .ref o), (2, .ref ym), (1, .ref (g 0 0)), (0, .ref b)]) hx hb dL_law_1861 hl (by decide) rfl (fun ls hl => ?_)
    refine lv_aload_n hx hb dL_law_1863 rfl (lv_at hl 3 rfl) ?_
    refine lv_aload_n hx hb dL_law_1864 rfl (lv_at hl 5 rfl) ?_
    refine lv_iload hx hb dL_law_1865 (lv_at hl 1 rfl) ?_
    refine lv_iconst (v := nI 1) hx hb dL_law_1867 (by decide) ?_
    refine sc_ld hx hb hX hbl hS (show i + 1 < Ln by omega) hLn dL_law_1868 dL_law_1869 ?_
    refine mr_calli (As := [.int (xs (i + 1))]) (rest := []) ⟨hx, hb, hml, hown, hts⟩ (mt_question l E ym ad L M (xs (i + 1))) (cwV 1 hts (lw_V q1257 q1258 q1259 q41 q1260) rfl rfl rfl (by decide +kernel) ⟨Nat.le_of_ble_eq_true rfl, Nat.le_of_ble_eq_true rfl⟩) hmz hK.1 hM hL9 hS rfl hl.1 rfl (Nat.le_of_ble_eq_true rfl) dL_law_1870 ⟨(show _ ≤ 1200384 by omega), (show _ ≤ 5490858 by omega)⟩ (fun H locs hM hS hz hk => ?_)
    have hR := hR.kept (fun a ha hlt => hk a hlt (fun z => ha.2 z))
    refine W.eq (g2 := F0 m 1873 ls [.int (mf_question M (xs (i + 1))).1]) rfl ?_
    refine lv_istore (lv' := [(6, .int (mf_question M (xs (i + 1))).1), (5, .int (nI (ix + 1))), (4, .int (nI i)), (3, .ref o), (2, .ref ym), (1, .ref (g 0 0)), (0, .ref b)]) hx hb dL_law_1873 hl (by decide) rfl (fun ls hl => ?_)
    refine lv_aload_n hx hb dL_law_1875 rfl (lv_at hl 4 rfl) ?_
    refine mr_calli (As := []) (rest := []) ⟨hx, hb, hml, hown, hts⟩ (mt_thrown l E ym ad L (mf_question M (xs (i + 1))).2) (cwV 0 hts (lw_V q1067 q1068 q1069 q41 q1070) rfl rfl rfl (by decide +kernel) ⟨Nat.le_of_ble_eq_true rfl, Nat.le_of_ble_eq_true rfl⟩) trivial hK.1 hM hL9 hS rfl hl.1 rfl (Nat.le_of_ble_eq_true rfl) dL_law_1876 ⟨(show _ ≤ 1200384 by omega), (show _ ≤ 5490858 by omega)⟩ (fun H locs hM hS hz hk => ?_)
    have hR := hR.kept (fun a ha hlt => hk a hlt (fun z => ha.2 z))
    refine W.eq (g2 := F0 m 1879 ls [.int (mf_thrown (mf_question M (xs (i + 1))).2)]) rfl ?_
    refine lv_iload hx hb dL_law_1879 (lv_at hl 1 rfl) ?_
    refine lv_icmp_eq (tgt := 1886) hx hb dL_law_1881 (by decide) (fun _ => ?_) (fun h => absurd ht h)
    refine lv_iload hx hb dL_law_1886 (lv_at hl 1 rfl) ?_
    refine lv_if_ne (tgt := 1903) hx hb dL_law_1888 (by decide) (fun _ => ?_) (fun h => absurd h (li_n0 (by decide) hix))
    refine lv_goto (tgt := 2388) hx hb dL_law_1903 (by decide) ?_
    refine W.widen (k := cells + 870) (n := slots + 3850) (by omega) (by omega) ?_
    exact kk S (mf_question M (xs (i + 1))).2 H locs ls ⟨hCP2, ⟨g, h, v', rfl, hh, hR⟩, hM⟩ hS (lv_sub hl [2, 3, 4, 5, 6] rfl)
  · have hM := hM.kept (fun a ha hlt => hk a hlt (fun z => z.2 ha))
    obtain ⟨ht, hr, hCP2⟩ := hcl.2 r S' hxn
    refine lv_istore (lv' := [(5, .int 0), (4, .int (nI i)), (3, .ref o), (2, .ref ym), (1, .ref (g 0 0)), (0, .ref b)]) hx hb dL_law_1861 hl (by decide) rfl (fun ls hl => ?_)
    refine lv_aload_n hx hb dL_law_1863 rfl (lv_at hl 3 rfl) ?_
    refine lv_aload_n hx hb dL_law_1864 rfl (lv_at hl 5 rfl) ?_
    refine lv_iload hx hb dL_law_1865 (lv_at hl 1 rfl) ?_
    refine lv_iconst (v := nI 1) hx hb dL_law_1867 (by decide) ?_
    refine sc_ld hx hb hX hbl hS (show i + 1 < Ln by omega) hLn dL_law_1868 dL_law_1869 ?_
    refine mr_calli (As := [.int (xs (i + 1))]) (rest := []) ⟨hx, hb, hml, hown, hts⟩ (mt_question l E ym ad L M (xs (i + 1))) (cwV 1 hts (lw_V q1257 q1258 q1259 q41 q1260) rfl rfl rfl (by decide +kernel) ⟨Nat.le_of_ble_eq_true rfl, Nat.le_of_ble_eq_true rfl⟩) hmz hK.1 hM hL9 hS rfl hl.1 rfl (Nat.le_of_ble_eq_true rfl) dL_law_1870 ⟨(show _ ≤ 1200384 by omega), (show _ ≤ 5490858 by omega)⟩ (fun H locs hM hS hz hk => ?_)
    have hR := hR.kept (fun a ha hlt => hk a hlt (fun z => ha.2 z))
    refine W.eq (g2 := F0 m 1873 ls [.int (mf_question M (xs (i + 1))).1]) rfl ?_
    refine lv_istore (lv' := [(6, .int (mf_question M (xs (i + 1))).1), (5, .int 0), (4, .int (nI i)), (3, .ref o), (2, .ref ym), (1, .ref (g 0 0)), (0, .ref b)]) hx hb dL_law_1873 hl (by decide) rfl (fun ls hl => ?_)
    refine lv_aload_n hx hb dL_law_1875 rfl (lv_at hl 4 rfl) ?_
    refine mr_calli (As := []) (rest := []) ⟨hx, hb, hml, hown, hts⟩ (mt_thrown l E ym ad L (mf_question M (xs (i + 1))).2) (cwV 0 hts (lw_V q1067 q1068 q1069 q41 q1070) rfl rfl rfl (by decide +kernel) ⟨Nat.le_of_ble_eq_true rfl, Nat.le_of_ble_eq_true rfl⟩) trivial hK.1 hM hL9 hS rfl hl.1 rfl (Nat.le_of_ble_eq_true rfl) dL_law_1876 ⟨(show _ ≤ 1200384 by omega), (show _ ≤ 5490858 by omega)⟩ (fun H locs hM hS hz hk => ?_)
    have hR := hR.kept (fun a ha hlt => hk a hlt (fun z => ha.2 z))
    refine W.eq (g2 := F0 m 1879 ls [.int (mf_thrown (mf_question M (xs (i + 1))).2)]) rfl ?_
    refine lv_iload hx hb dL_law_1879 (lv_at hl 1 rfl) ?_
    refine lv_icmp_eq (tgt := 1886) hx hb dL_law_1881 (by decide) (fun _ => ?_) (fun h => absurd ht h)
    refine lv_iload hx hb dL_law_1886 (lv_at hl 1 rfl) ?_
    refine lv_if_ne (tgt := 1903) hx hb dL_law_1888 (by decide) (fun h => absurd rfl h) (fun _ => ?_)
    refine lv_aload_n hx hb dL_law_1891 rfl (lv_at hl 3 rfl) ?_
    refine lv_iconst (v := 0) hx hb dL_law_1892 (by decide) ?_
    refine xo_lald hx hb hK.1 hR dL_law_1893 ?_
    refine lv_iload hx hb dL_law_1894 (lv_at hl 0 rfl) ?_
    refine lv_i2l (v := (mf_question M (xs (i + 1))).1.toInt64) hx hb dL_law_1896 rfl ?_
    have hvv : v' 0 = (mf_question M (xs (i + 1))).1.toInt64 := by rw [hv', hr]
    refine W.eq (g2 := F0 m 1897 ls [.long ((mf_question M (xs (i + 1))).1.toInt64), .long ((mf_question M (xs (i + 1))).1.toInt64)]) (congrArg (fun z => F0 m 1897 ls [.long ((mf_question M (xs (i + 1))).1.toInt64), .long z]) hvv) ?_
    refine lv_lcmpE hx hb dL_law_1897 ?_
    refine lv_if_eq (tgt := 1903) hx hb dL_law_1898 (by decide) (fun _ => ?_) (fun h => absurd rfl h)
    refine lv_goto (tgt := 2388) hx hb dL_law_1903 (by decide) ?_
    refine W.widen (k := cells + 870) (n := slots + 3850) (by omega) (by omega) ?_
    exact kk S' (mf_question M (xs (i + 1))).2 H locs ls ⟨hCP2, ⟨g', h', v', hg0, hh', hR⟩, hM⟩ hS (lv_sub hl [2, 3, 4, 5, 6] rfl)
set_option maxHeartbeats 2000000 in
set_option maxRecDepth 100000 in
theorem lc_isProven {CP : gs_T → gs_T → Prop} (hCPi : ∀ S M, CP S M → xi_ok S ∧ mi_ok M) (hc : ∀ S M (p1 : Int32) (p2 : Int32), CP S M → cl_P CP ["java/lang/IndexOutOfBoundsException"] (xp_isProven S p1 p2) (mf_isProven M p1 p2).1 (mf_isProven M p1 p2).2 S) {l : Launch} {p : Program} {e : Env} {s : State} {m : MethodId} {below : List Frame} {meth : Method} {c : Code} {H : Heap} {locs : List Loc} {cells slots : Nat} {Q : State → Prop} {ls : Array Slot} {b Ln i : Nat} {xs : Nat → Int32} {E : en_T} {C : ex_C} {x0 ym o : Nat} {ad : Nat → Nat} {L : List Nat} {S M : gs_T} (hE : le_E l p s m meth c b Ln xs E C ym L) (hi : i + 8 ≤ Ln) (hW : LW CP E C s x0 ym o ad L S M H) (hS : va_S (la_9 s) s.heap H locs) (hl : lv_has ls 7 [(4, .int (nI i)), (3, .ref o), (2, .ref ym), (1, .ref x0), (0, .ref b)]) (hf : cells + 870 ≤ 1200384 ∧ slots + 3850 ≤ 5490858) (kk : ∀ (S' M' : gs_T) (H' : Heap) (locs' : List Loc) (ls' : Array Slot), LW CP E C s x0 ym o ad L S' M' H' → va_S (la_9 s) s.heap H' locs' → lv_has ls' 7 [(4, .int (nI i)), (3, .ref o), (2, .ref ym), (1, .ref x0), (0, .ref b)] → W p l e room_1 s m #[.ref b] below meth c H' locs' (cells + 870) (slots + 3850) Q (F0 m 2388 ls' [])) : W p l e room_1 s m #[.ref b] below meth c H locs cells slots Q (F0 m 1906 ls []) := by
  obtain ⟨hx, hb, hml, hown, hts, hX, hbl, hK, hN, hZ, hfl, hL9, hLn⟩ := hE
  obtain ⟨hCP, ⟨g, h, v, hg0, hh, hR⟩, hM⟩ := hW
  obtain ⟨hI, hmi⟩ := hCPi S M hCP
  subst hg0
  refine lv_aload_n hx hb dL_law_1906 rfl (lv_at hl 3 rfl) ?_
  refine lv_aload_n hx hb dL_law_1907 rfl (lv_at hl 4 rfl) ?_
  refine lv_iload hx hb dL_law_1908 (lv_at hl 0 rfl) ?_
  refine lv_iconst (v := nI 1) hx hb dL_law_1910 (by decide) ?_
  refine sc_ld hx hb hX hbl hS (show i + 1 < Ln by omega) hLn dL_law_1911 dL_law_1912 ?_
  refine lv_aload_n hx hb dL_law_1913 rfl (lv_at hl 4 rfl) ?_
  refine lv_iload hx hb dL_law_1914 (lv_at hl 0 rfl) ?_
  refine lv_iconst (v := nI 2) hx hb dL_law_1916 (by decide) ?_
  refine sc_ld hx hb hX hbl hS (show i + 2 < Ln by omega) hLn dL_law_1917 dL_law_1918 ?_
  refine lv_aload_n hx hb dL_law_1919 rfl (lv_at hl 1 rfl) ?_
  have hcl := hc S M (xs (i + 1)) (xs (i + 2)) hCP
  have hmz : mi_ok M := hmi
  refine ls_S (As := [.ref (g 0 0), .int (xs (i + 1)), .int (xs (i + 2)), .ref o]) (rest := []) hK hN hZ hS (fun _ h => h.1) (la_new hS.1 (mr_lt hM)) hR ⟨hI, hh⟩ (wt_isProven l hfl E C (la_A s L) H.size g h S o v (xs (i + 1)) (xs (i + 2))) ⟨hx, hb, hml, hown, hts⟩ (vx_cwSW 4 hts (lw_SW q887 q888 q32 q889) rfl rfl rfl (by decide +kernel) ⟨Nat.le_of_ble_eq_true rfl, Nat.le_of_ble_eq_true rfl⟩) rfl hl.1 rfl (Nat.le_of_ble_eq_true rfl) dL_law_1920 ⟨(show _ ≤ 1200384 by omega), (show _ ≤ 5490858 by omega)⟩ (fun Xn ix v' H locs hxn hix hR hz hk hS => ?_) (fun r S' g' h' v' H locs hxn hg0 hh' hv' hR hz hk hS => ?_)
  · have hM := hM.kept (fun a ha hlt => hk a hlt (fun z => z.2 ha))
    obtain ⟨j, hj, ht, hCP2⟩ := hcl.1 Xn hxn
    have ej := li_ne (by decide) hix hj
    rw [← ej] at ht
    refine lv_istore (lv' := [(5, .int (nI (ix + 1))), (4, .int (nI i)), (3, .ref o), (2, .ref ym), (1, .ref (g 0 0)), (0, .ref b)]) hx hb dL_law_1923 hl (by decide) rfl (fun ls hl => ?_)
    refine lv_aload_n hx hb dL_law_1925 rfl (lv_at hl 3 rfl) ?_
    refine lv_aload_n hx hb dL_law_1926 rfl (lv_at hl 5 rfl) ?_
    refine lv_iload hx hb dL_law_1927 (lv_at hl 1 rfl) ?_
    refine lv_iconst (v := nI 1) hx hb dL_law_1929 (by decide) ?_
    refine sc_ld hx hb hX hbl hS (show i + 1 < Ln by omega) hLn dL_law_1930 dL_law_1931 ?_
    refine lv_aload_n hx hb dL_law_1932 rfl (lv_at hl 5 rfl) ?_
    refine lv_iload hx hb dL_law_1933 (lv_at hl 1 rfl) ?_
    refine lv_iconst (v := nI 2) hx hb dL_law_1935 (by decide) ?_
    refine sc_ld hx hb hX hbl hS (show i + 2 < Ln by omega) hLn dL_law_1936 dL_law_1937 ?_
    refine mr_calli (As := [.int (xs (i + 1)), .int (xs (i + 2))]) (rest := []) ⟨hx, hb, hml, hown, hts⟩ (mt_isProven l E ym ad L M (xs (i + 1)) (xs (i + 2))) (cwV 2 hts (lw_V q1261 q1262 q1263 q41 q1264) rfl rfl rfl (by decide +kernel) ⟨Nat.le_of_ble_eq_true rfl, Nat.le_of_ble_eq_true rfl⟩) hmz hK.1 hM hL9 hS rfl hl.1 rfl (Nat.le_of_ble_eq_true rfl) dL_law_1938 ⟨(show _ ≤ 1200384 by omega), (show _ ≤ 5490858 by omega)⟩ (fun H locs hM hS hz hk => ?_)
    have hR := hR.kept (fun a ha hlt => hk a hlt (fun z => ha.2 z))
    refine W.eq (g2 := F0 m 1941 ls [.int (gs_bz (mf_isProven M (xs (i + 1)) (xs (i + 2))).1)]) rfl ?_
    refine lv_istore (lv' := [(6, .int (gs_bz (mf_isProven M (xs (i + 1)) (xs (i + 2))).1)), (5, .int (nI (ix + 1))), (4, .int (nI i)), (3, .ref o), (2, .ref ym), (1, .ref (g 0 0)), (0, .ref b)]) hx hb dL_law_1941 hl (by decide) rfl (fun ls hl => ?_)
    refine lv_aload_n hx hb dL_law_1943 rfl (lv_at hl 4 rfl) ?_
    refine mr_calli (As := []) (rest := []) ⟨hx, hb, hml, hown, hts⟩ (mt_thrown l E ym ad L (mf_isProven M (xs (i + 1)) (xs (i + 2))).2) (cwV 0 hts (lw_V q1067 q1068 q1069 q41 q1070) rfl rfl rfl (by decide +kernel) ⟨Nat.le_of_ble_eq_true rfl, Nat.le_of_ble_eq_true rfl⟩) trivial hK.1 hM hL9 hS rfl hl.1 rfl (Nat.le_of_ble_eq_true rfl) dL_law_1944 ⟨(show _ ≤ 1200384 by omega), (show _ ≤ 5490858 by omega)⟩ (fun H locs hM hS hz hk => ?_)
    have hR := hR.kept (fun a ha hlt => hk a hlt (fun z => ha.2 z))
    refine W.eq (g2 := F0 m 1947 ls [.int (mf_thrown (mf_isProven M (xs (i + 1)) (xs (i + 2))).2)]) rfl ?_
    refine lv_iload hx hb dL_law_1947 (lv_at hl 1 rfl) ?_
    refine lv_icmp_eq (tgt := 1954) hx hb dL_law_1949 (by decide) (fun _ => ?_) (fun h => absurd ht h)
    refine lv_iload hx hb dL_law_1954 (lv_at hl 1 rfl) ?_
    refine lv_if_ne (tgt := 1978) hx hb dL_law_1956 (by decide) (fun _ => ?_) (fun h => absurd h (li_n0 (by decide) hix))
    refine lv_goto (tgt := 2388) hx hb dL_law_1978 (by decide) ?_
    refine W.widen (k := cells + 870) (n := slots + 3850) (by omega) (by omega) ?_
    exact kk S (mf_isProven M (xs (i + 1)) (xs (i + 2))).2 H locs ls ⟨hCP2, ⟨g, h, v', rfl, hh, hR⟩, hM⟩ hS (lv_sub hl [2, 3, 4, 5, 6] rfl)
  · have hM := hM.kept (fun a ha hlt => hk a hlt (fun z => z.2 ha))
    obtain ⟨ht, hr, hCP2⟩ := hcl.2 r S' hxn
    refine lv_istore (lv' := [(5, .int 0), (4, .int (nI i)), (3, .ref o), (2, .ref ym), (1, .ref (g 0 0)), (0, .ref b)]) hx hb dL_law_1923 hl (by decide) rfl (fun ls hl => ?_)
    refine lv_aload_n hx hb dL_law_1925 rfl (lv_at hl 3 rfl) ?_
    refine lv_aload_n hx hb dL_law_1926 rfl (lv_at hl 5 rfl) ?_
    refine lv_iload hx hb dL_law_1927 (lv_at hl 1 rfl) ?_
    refine lv_iconst (v := nI 1) hx hb dL_law_1929 (by decide) ?_
    refine sc_ld hx hb hX hbl hS (show i + 1 < Ln by omega) hLn dL_law_1930 dL_law_1931 ?_
    refine lv_aload_n hx hb dL_law_1932 rfl (lv_at hl 5 rfl) ?_
    refine lv_iload hx hb dL_law_1933 (lv_at hl 1 rfl) ?_
    refine lv_iconst (v := nI 2) hx hb dL_law_1935 (by decide) ?_
    refine sc_ld hx hb hX hbl hS (show i + 2 < Ln by omega) hLn dL_law_1936 dL_law_1937 ?_
    refine mr_calli (As := [.int (xs (i + 1)), .int (xs (i + 2))]) (rest := []) ⟨hx, hb, hml, hown, hts⟩ (mt_isProven l E ym ad L M (xs (i + 1)) (xs (i + 2))) (cwV 2 hts (lw_V q1261 q1262 q1263 q41 q1264) rfl rfl rfl (by decide +kernel) ⟨Nat.le_of_ble_eq_true rfl, Nat.le_of_ble_eq_true rfl⟩) hmz hK.1 hM hL9 hS rfl hl.1 rfl (Nat.le_of_ble_eq_true rfl) dL_law_1938 ⟨(show _ ≤ 1200384 by omega), (show _ ≤ 5490858 by omega)⟩ (fun H locs hM hS hz hk => ?_)
    have hR := hR.kept (fun a ha hlt => hk a hlt (fun z => ha.2 z))
    refine W.eq (g2 := F0 m 1941 ls [.int (gs_bz (mf_isProven M (xs (i + 1)) (xs (i + 2))).1)]) rfl ?_
    refine lv_istore (lv' := [(6, .int (gs_bz (mf_isProven M (xs (i + 1)) (xs (i + 2))).1)), (5, .int 0), (4, .int (nI i)), (3, .ref o), (2, .ref ym), (1, .ref (g 0 0)), (0, .ref b)]) hx hb dL_law_1941 hl (by decide) rfl (fun ls hl => ?_)
    refine lv_aload_n hx hb dL_law_1943 rfl (lv_at hl 4 rfl) ?_
    refine mr_calli (As := []) (rest := []) ⟨hx, hb, hml, hown, hts⟩ (mt_thrown l E ym ad L (mf_isProven M (xs (i + 1)) (xs (i + 2))).2) (cwV 0 hts (lw_V q1067 q1068 q1069 q41 q1070) rfl rfl rfl (by decide +kernel) ⟨Nat.le_of_ble_eq_true rfl, Nat.le_of_ble_eq_true rfl⟩) trivial hK.1 hM hL9 hS rfl hl.1 rfl (Nat.le_of_ble_eq_true rfl) dL_law_1944 ⟨(show _ ≤ 1200384 by omega), (show _ ≤ 5490858 by omega)⟩ (fun H locs hM hS hz hk => ?_)
    have hR := hR.kept (fun a ha hlt => hk a hlt (fun z => ha.2 z))
    refine W.eq (g2 := F0 m 1947 ls [.int (mf_thrown (mf_isProven M (xs (i + 1)) (xs (i + 2))).2)]) rfl ?_
    refine lv_iload hx hb dL_law_1947 (lv_at hl 1 rfl) ?_
    refine lv_icmp_eq (tgt := 1954) hx hb dL_law_1949 (by decide) (fun _ => ?_) (fun h => absurd ht h)
    refine lv_iload hx hb dL_law_1954 (lv_at hl 1 rfl) ?_
    refine lv_if_ne (tgt := 1978) hx hb dL_law_1956 (by decide) (fun h => absurd rfl h) (fun _ => ?_)
    refine lv_aload_n hx hb dL_law_1959 rfl (lv_at hl 3 rfl) ?_
    refine lv_iconst (v := 0) hx hb dL_law_1960 (by decide) ?_
    refine xo_lald hx hb hK.1 hR dL_law_1961 ?_
    refine lv_iload hx hb dL_law_1962 (lv_at hl 0 rfl) ?_
    have hvv : v' 0 = (gs_bz (mf_isProven M (xs (i + 1)) (xs (i + 2))).1).toInt64 := by rw [hv', hr]
    rcases Bool.eq_false_or_eq_true (mf_isProven M (xs (i + 1)) (xs (i + 2))).1 with hbq | hbq
    · rw [hbq] at hvv
      refine W.eq (g2 := F0 m 1964 ls [.int 1, .long (v' 0)]) (by rw [hbq]; rfl) ?_
      refine lv_if_eq (tgt := 1971) hx hb dL_law_1964 (by decide) (fun h => absurd h (by decide)) (fun _ => ?_)
      refine lv_lconst (v := 1) hx hb dL_law_1967 (by decide) ?_
      refine lv_goto (tgt := 1972) hx hb dL_law_1968 (by decide) ?_
      have hvv : v' 0 = 1 := hvv.trans (by decide)
      refine W.eq (g2 := F0 m 1972 ls [.long 1, .long 1]) (congrArg (fun z => F0 m 1972 ls [.long 1, .long z]) hvv) ?_
      refine lv_lcmpE hx hb dL_law_1972 ?_
      refine lv_if_eq (tgt := 1978) hx hb dL_law_1973 (by decide) (fun _ => ?_) (fun h => absurd rfl h)
      refine lv_goto (tgt := 2388) hx hb dL_law_1978 (by decide) ?_
      refine W.widen (k := cells + 870) (n := slots + 3850) (by omega) (by omega) ?_
      exact kk S' (mf_isProven M (xs (i + 1)) (xs (i + 2))).2 H locs ls ⟨hCP2, ⟨g', h', v', hg0, hh', hR⟩, hM⟩ hS (lv_sub hl [2, 3, 4, 5, 6] rfl)
    · rw [hbq] at hvv
      refine W.eq (g2 := F0 m 1964 ls [.int 0, .long (v' 0)]) (by rw [hbq]; rfl) ?_
      refine lv_if_eq (tgt := 1971) hx hb dL_law_1964 (by decide) (fun _ => ?_) (fun h => absurd rfl h)
      refine lv_lconst (v := 0) hx hb dL_law_1971 (by decide) ?_
      have hvv : v' 0 = 0 := hvv.trans (by decide)
      refine W.eq (g2 := F0 m 1972 ls [.long 0, .long 0]) (congrArg (fun z => F0 m 1972 ls [.long 0, .long z]) hvv) ?_
      refine lv_lcmpE hx hb dL_law_1972 ?_
      refine lv_if_eq (tgt := 1978) hx hb dL_law_1973 (by decide) (fun _ => ?_) (fun h => absurd rfl h)
      refine lv_goto (tgt := 2388) hx hb dL_law_1978 (by decide) ?_
      refine W.widen (k := cells + 870) (n := slots + 3850) (by omega) (by omega) ?_
      exact kk S' (mf_isProven M (xs (i + 1)) (xs (i + 2))).2 H locs ls ⟨hCP2, ⟨g', h', v', hg0, hh', hR⟩, hM⟩ hS (lv_sub hl [2, 3, 4, 5, 6] rfl)
set_option maxHeartbeats 2000000 in
set_option maxRecDepth 100000 in
theorem lc_isDue {CP : gs_T → gs_T → Prop} (hCPi : ∀ S M, CP S M → xi_ok S ∧ mi_ok M) (hc : ∀ S M (p1 : Int32), CP S M → cl_P CP ["java/lang/IndexOutOfBoundsException"] (xp_isDue S p1) (mf_isDue M p1).1 (mf_isDue M p1).2 S) {l : Launch} {p : Program} {e : Env} {s : State} {m : MethodId} {below : List Frame} {meth : Method} {c : Code} {H : Heap} {locs : List Loc} {cells slots : Nat} {Q : State → Prop} {ls : Array Slot} {b Ln i : Nat} {xs : Nat → Int32} {E : en_T} {C : ex_C} {x0 ym o : Nat} {ad : Nat → Nat} {L : List Nat} {S M : gs_T} (hE : le_E l p s m meth c b Ln xs E C ym L) (hi : i + 8 ≤ Ln) (hW : LW CP E C s x0 ym o ad L S M H) (hS : va_S (la_9 s) s.heap H locs) (hl : lv_has ls 7 [(4, .int (nI i)), (3, .ref o), (2, .ref ym), (1, .ref x0), (0, .ref b)]) (hf : cells + 870 ≤ 1200384 ∧ slots + 3850 ≤ 5490858) (kk : ∀ (S' M' : gs_T) (H' : Heap) (locs' : List Loc) (ls' : Array Slot), LW CP E C s x0 ym o ad L S' M' H' → va_S (la_9 s) s.heap H' locs' → lv_has ls' 7 [(4, .int (nI i)), (3, .ref o), (2, .ref ym), (1, .ref x0), (0, .ref b)] → W p l e room_1 s m #[.ref b] below meth c H' locs' (cells + 870) (slots + 3850) Q (F0 m 2388 ls' [])) : W p l e room_1 s m #[.ref b] below meth c H locs cells slots Q (F0 m 1981 ls []) := by
  obtain ⟨hx, hb, hml, hown, hts, hX, hbl, hK, hN, hZ, hfl, hL9, hLn⟩ := hE
  obtain ⟨hCP, ⟨g, h, v, hg0, hh, hR⟩, hM⟩ := hW
  obtain ⟨hI, hmi⟩ := hCPi S M hCP
  subst hg0
  refine lv_aload_n hx hb dL_law_1981 rfl (lv_at hl 3 rfl) ?_
  refine lv_aload_n hx hb dL_law_1982 rfl (lv_at hl 4 rfl) ?_
  refine lv_iload hx hb dL_law_1983 (lv_at hl 0 rfl) ?_
  refine lv_iconst (v := nI 1) hx hb dL_law_1985 (by decide) ?_
  refine sc_ld hx hb hX hbl hS (show i + 1 < Ln by omega) hLn dL_law_1986 dL_law_1987 ?_
  refine lv_aload_n hx hb dL_law_1988 rfl (lv_at hl 1 rfl) ?_
  have hcl := hc S M (xs (i + 1)) hCP
  have hmz : mi_ok M := hmi
  refine ls_S (As := [.ref (g 0 0), .int (xs (i + 1)), .ref o]) (rest := []) hK hN hZ hS (fun _ h => h.1) (la_new hS.1 (mr_lt hM)) hR ⟨hI, hh⟩ (wt_isDue l hfl E C (la_A s L) H.size g h S o v (xs (i + 1))) ⟨hx, hb, hml, hown, hts⟩ (vx_cwSW 3 hts (lw_SW q894 q895 q32 q896) rfl rfl rfl (by decide +kernel) ⟨Nat.le_of_ble_eq_true rfl, Nat.le_of_ble_eq_true rfl⟩) rfl hl.1 rfl (Nat.le_of_ble_eq_true rfl) dL_law_1989 ⟨(show _ ≤ 1200384 by omega), (show _ ≤ 5490858 by omega)⟩ (fun Xn ix v' H locs hxn hix hR hz hk hS => ?_) (fun r S' g' h' v' H locs hxn hg0 hh' hv' hR hz hk hS => ?_)
  · have hM := hM.kept (fun a ha hlt => hk a hlt (fun z => z.2 ha))
    obtain ⟨j, hj, ht, hCP2⟩ := hcl.1 Xn hxn
    have ej := li_ne (by decide) hix hj
    rw [← ej] at ht
    refine lv_istore (lv' := [(5, .int (nI (ix + 1))), (4, .int (nI i)), (3, .ref o), (2, .ref ym), (1, .ref (g 0 0)), (0, .ref b)]) hx hb dL_law_1992 hl (by decide) rfl (fun ls hl => ?_)
    refine lv_aload_n hx hb dL_law_1994 rfl (lv_at hl 3 rfl) ?_
    refine lv_aload_n hx hb dL_law_1995 rfl (lv_at hl 5 rfl) ?_
    refine lv_iload hx hb dL_law_1996 (lv_at hl 1 rfl) ?_
    refine lv_iconst (v := nI 1) hx hb dL_law_1998 (by decide) ?_
    refine sc_ld hx hb hX hbl hS (show i + 1 < Ln by omega) hLn dL_law_1999 dL_law_2000 ?_
    refine mr_calli (As := [.int (xs (i + 1))]) (rest := []) ⟨hx, hb, hml, hown, hts⟩ (mt_isDue l E ym ad L M (xs (i + 1))) (cwV 1 hts (lw_V q1265 q1266 q1267 q41 q1268) rfl rfl rfl (by decide +kernel) ⟨Nat.le_of_ble_eq_true rfl, Nat.le_of_ble_eq_true rfl⟩) hmz hK.1 hM hL9 hS rfl hl.1 rfl (Nat.le_of_ble_eq_true rfl) dL_law_2001 ⟨(show _ ≤ 1200384 by omega), (show _ ≤ 5490858 by omega)⟩ (fun H locs hM hS hz hk => ?_)
    have hR := hR.kept (fun a ha hlt => hk a hlt (fun z => ha.2 z))
    refine W.eq (g2 := F0 m 2004 ls [.int (gs_bz (mf_isDue M (xs (i + 1))).1)]) rfl ?_
    refine lv_istore (lv' := [(6, .int (gs_bz (mf_isDue M (xs (i + 1))).1)), (5, .int (nI (ix + 1))), (4, .int (nI i)), (3, .ref o), (2, .ref ym), (1, .ref (g 0 0)), (0, .ref b)]) hx hb dL_law_2004 hl (by decide) rfl (fun ls hl => ?_)
    refine lv_aload_n hx hb dL_law_2006 rfl (lv_at hl 4 rfl) ?_
    refine mr_calli (As := []) (rest := []) ⟨hx, hb, hml, hown, hts⟩ (mt_thrown l E ym ad L (mf_isDue M (xs (i + 1))).2) (cwV 0 hts (lw_V q1067 q1068 q1069 q41 q1070) rfl rfl rfl (by decide +kernel) ⟨Nat.le_of_ble_eq_true rfl, Nat.le_of_ble_eq_true rfl⟩) trivial hK.1 hM hL9 hS rfl hl.1 rfl (Nat.le_of_ble_eq_true rfl) dL_law_2007 ⟨(show _ ≤ 1200384 by omega), (show _ ≤ 5490858 by omega)⟩ (fun H locs hM hS hz hk => ?_)
    have hR := hR.kept (fun a ha hlt => hk a hlt (fun z => ha.2 z))
    refine W.eq (g2 := F0 m 2010 ls [.int (mf_thrown (mf_isDue M (xs (i + 1))).2)]) rfl ?_
    refine lv_iload hx hb dL_law_2010 (lv_at hl 1 rfl) ?_
    refine lv_icmp_eq (tgt := 2017) hx hb dL_law_2012 (by decide) (fun _ => ?_) (fun h => absurd ht h)
    refine lv_iload hx hb dL_law_2017 (lv_at hl 1 rfl) ?_
    refine lv_if_ne (tgt := 2041) hx hb dL_law_2019 (by decide) (fun _ => ?_) (fun h => absurd h (li_n0 (by decide) hix))
    refine lv_goto (tgt := 2388) hx hb dL_law_2041 (by decide) ?_
    refine W.widen (k := cells + 870) (n := slots + 3850) (by omega) (by omega) ?_
    exact kk S (mf_isDue M (xs (i + 1))).2 H locs ls ⟨hCP2, ⟨g, h, v', rfl, hh, hR⟩, hM⟩ hS (lv_sub hl [2, 3, 4, 5, 6] rfl)
  · have hM := hM.kept (fun a ha hlt => hk a hlt (fun z => z.2 ha))
    obtain ⟨ht, hr, hCP2⟩ := hcl.2 r S' hxn
    refine lv_istore (lv' := [(5, .int 0), (4, .int (nI i)), (3, .ref o), (2, .ref ym), (1, .ref (g 0 0)), (0, .ref b)]) hx hb dL_law_1992 hl (by decide) rfl (fun ls hl => ?_)
    refine lv_aload_n hx hb dL_law_1994 rfl (lv_at hl 3 rfl) ?_
    refine lv_aload_n hx hb dL_law_1995 rfl (lv_at hl 5 rfl) ?_
    refine lv_iload hx hb dL_law_1996 (lv_at hl 1 rfl) ?_
    refine lv_iconst (v := nI 1) hx hb dL_law_1998 (by decide) ?_
    refine sc_ld hx hb hX hbl hS (show i + 1 < Ln by omega) hLn dL_law_1999 dL_law_2000 ?_
    refine mr_calli (As := [.int (xs (i + 1))]) (rest := []) ⟨hx, hb, hml, hown, hts⟩ (mt_isDue l E ym ad L M (xs (i + 1))) (cwV 1 hts (lw_V q1265 q1266 q1267 q41 q1268) rfl rfl rfl (by decide +kernel) ⟨Nat.le_of_ble_eq_true rfl, Nat.le_of_ble_eq_true rfl⟩) hmz hK.1 hM hL9 hS rfl hl.1 rfl (Nat.le_of_ble_eq_true rfl) dL_law_2001 ⟨(show _ ≤ 1200384 by omega), (show _ ≤ 5490858 by omega)⟩ (fun H locs hM hS hz hk => ?_)
    have hR := hR.kept (fun a ha hlt => hk a hlt (fun z => ha.2 z))
    refine W.eq (g2 := F0 m 2004 ls [.int (gs_bz (mf_isDue M (xs (i + 1))).1)]) rfl ?_
    refine lv_istore (lv' := [(6, .int (gs_bz (mf_isDue M (xs (i + 1))).1)), (5, .int 0), (4, .int (nI i)), (3, .ref o), (2, .ref ym), (1, .ref (g 0 0)), (0, .ref b)]) hx hb dL_law_2004 hl (by decide) rfl (fun ls hl => ?_)
    refine lv_aload_n hx hb dL_law_2006 rfl (lv_at hl 4 rfl) ?_
    refine mr_calli (As := []) (rest := []) ⟨hx, hb, hml, hown, hts⟩ (mt_thrown l E ym ad L (mf_isDue M (xs (i + 1))).2) (cwV 0 hts (lw_V q1067 q1068 q1069 q41 q1070) rfl rfl rfl (by decide +kernel) ⟨Nat.le_of_ble_eq_true rfl, Nat.le_of_ble_eq_true rfl⟩) trivial hK.1 hM hL9 hS rfl hl.1 rfl (Nat.le_of_ble_eq_true rfl) dL_law_2007 ⟨(show _ ≤ 1200384 by omega), (show _ ≤ 5490858 by omega)⟩ (fun H locs hM hS hz hk => ?_)
    have hR := hR.kept (fun a ha hlt => hk a hlt (fun z => ha.2 z))
    refine W.eq (g2 := F0 m 2010 ls [.int (mf_thrown (mf_isDue M (xs (i + 1))).2)]) rfl ?_
    refine lv_iload hx hb dL_law_2010 (lv_at hl 1 rfl) ?_
    refine lv_icmp_eq (tgt := 2017) hx hb dL_law_2012 (by decide) (fun _ => ?_) (fun h => absurd ht h)
    refine lv_iload hx hb dL_law_2017 (lv_at hl 1 rfl) ?_
    refine lv_if_ne (tgt := 2041) hx hb dL_law_2019 (by decide) (fun h => absurd rfl h) (fun _ => ?_)
    refine lv_aload_n hx hb dL_law_2022 rfl (lv_at hl 3 rfl) ?_
    refine lv_iconst (v := 0) hx hb dL_law_2023 (by decide) ?_
    refine xo_lald hx hb hK.1 hR dL_law_2024 ?_
    refine lv_iload hx hb dL_law_2025 (lv_at hl 0 rfl) ?_
    have hvv : v' 0 = (gs_bz (mf_isDue M (xs (i + 1))).1).toInt64 := by rw [hv', hr]
    rcases Bool.eq_false_or_eq_true (mf_isDue M (xs (i + 1))).1 with hbq | hbq
    · rw [hbq] at hvv
      refine W.eq (g2 := F0 m 2027 ls [.int 1, .long (v' 0)]) (by rw [hbq]; rfl) ?_
      refine lv_if_eq (tgt := 2034) hx hb dL_law_2027 (by decide) (fun h => absurd h (by decide)) (fun _ => ?_)
      refine lv_lconst (v := 1) hx hb dL_law_2030 (by decide) ?_
      refine lv_goto (tgt := 2035) hx hb dL_law_2031 (by decide) ?_
      have hvv : v' 0 = 1 := hvv.trans (by decide)
      refine W.eq (g2 := F0 m 2035 ls [.long 1, .long 1]) (congrArg (fun z => F0 m 2035 ls [.long 1, .long z]) hvv) ?_
      refine lv_lcmpE hx hb dL_law_2035 ?_
      refine lv_if_eq (tgt := 2041) hx hb dL_law_2036 (by decide) (fun _ => ?_) (fun h => absurd rfl h)
      refine lv_goto (tgt := 2388) hx hb dL_law_2041 (by decide) ?_
      refine W.widen (k := cells + 870) (n := slots + 3850) (by omega) (by omega) ?_
      exact kk S' (mf_isDue M (xs (i + 1))).2 H locs ls ⟨hCP2, ⟨g', h', v', hg0, hh', hR⟩, hM⟩ hS (lv_sub hl [2, 3, 4, 5, 6] rfl)
    · rw [hbq] at hvv
      refine W.eq (g2 := F0 m 2027 ls [.int 0, .long (v' 0)]) (by rw [hbq]; rfl) ?_
      refine lv_if_eq (tgt := 2034) hx hb dL_law_2027 (by decide) (fun _ => ?_) (fun h => absurd rfl h)
      refine lv_lconst (v := 0) hx hb dL_law_2034 (by decide) ?_
      have hvv : v' 0 = 0 := hvv.trans (by decide)
      refine W.eq (g2 := F0 m 2035 ls [.long 0, .long 0]) (congrArg (fun z => F0 m 2035 ls [.long 0, .long z]) hvv) ?_
      refine lv_lcmpE hx hb dL_law_2035 ?_
      refine lv_if_eq (tgt := 2041) hx hb dL_law_2036 (by decide) (fun _ => ?_) (fun h => absurd rfl h)
      refine lv_goto (tgt := 2388) hx hb dL_law_2041 (by decide) ?_
      refine W.widen (k := cells + 870) (n := slots + 3850) (by omega) (by omega) ?_
      exact kk S' (mf_isDue M (xs (i + 1))).2 H locs ls ⟨hCP2, ⟨g', h', v', hg0, hh', hR⟩, hM⟩ hS (lv_sub hl [2, 3, 4, 5, 6] rfl)
set_option maxHeartbeats 2000000 in
set_option maxRecDepth 100000 in
theorem lc_ofFind {CP : gs_T → gs_T → Prop} (hCPi : ∀ S M, CP S M → xi_ok S ∧ mi_ok M) (hc : ∀ S M (p1 : Int32) (p2 : Int32), CP S M → cl_P CP ["java/lang/IndexOutOfBoundsException", "java/lang/IllegalArgumentException"] (xp_ofFind S p1 p2) (mf_ofFind M p1 p2).1 (mf_ofFind M p1 p2).2 S) {l : Launch} {p : Program} {e : Env} {s : State} {m : MethodId} {below : List Frame} {meth : Method} {c : Code} {H : Heap} {locs : List Loc} {cells slots : Nat} {Q : State → Prop} {ls : Array Slot} {b Ln i : Nat} {xs : Nat → Int32} {E : en_T} {C : ex_C} {x0 ym o : Nat} {ad : Nat → Nat} {L : List Nat} {S M : gs_T} (hE : le_E l p s m meth c b Ln xs E C ym L) (hi : i + 8 ≤ Ln) (hW : LW CP E C s x0 ym o ad L S M H) (hS : va_S (la_9 s) s.heap H locs) (hl : lv_has ls 7 [(4, .int (nI i)), (3, .ref o), (2, .ref ym), (1, .ref x0), (0, .ref b)]) (hf : cells + 870 ≤ 1200384 ∧ slots + 3850 ≤ 5490858) (kk : ∀ (S' M' : gs_T) (H' : Heap) (locs' : List Loc) (ls' : Array Slot), LW CP E C s x0 ym o ad L S' M' H' → va_S (la_9 s) s.heap H' locs' → lv_has ls' 7 [(4, .int (nI i)), (3, .ref o), (2, .ref ym), (1, .ref x0), (0, .ref b)] → W p l e room_1 s m #[.ref b] below meth c H' locs' (cells + 870) (slots + 3850) Q (F0 m 2388 ls' [])) : W p l e room_1 s m #[.ref b] below meth c H locs cells slots Q (F0 m 2044 ls []) := by
  obtain ⟨hx, hb, hml, hown, hts, hX, hbl, hK, hN, hZ, hfl, hL9, hLn⟩ := hE
  obtain ⟨hCP, ⟨g, h, v, hg0, hh, hR⟩, hM⟩ := hW
  obtain ⟨hI, hmi⟩ := hCPi S M hCP
  subst hg0
  refine lv_aload_n hx hb dL_law_2044 rfl (lv_at hl 3 rfl) ?_
  refine lv_aload_n hx hb dL_law_2045 rfl (lv_at hl 4 rfl) ?_
  refine lv_iload hx hb dL_law_2046 (lv_at hl 0 rfl) ?_
  refine lv_iconst (v := nI 1) hx hb dL_law_2048 (by decide) ?_
  refine sc_ld hx hb hX hbl hS (show i + 1 < Ln by omega) hLn dL_law_2049 dL_law_2050 ?_
  refine lv_aload_n hx hb dL_law_2051 rfl (lv_at hl 4 rfl) ?_
  refine lv_iload hx hb dL_law_2052 (lv_at hl 0 rfl) ?_
  refine lv_iconst (v := nI 2) hx hb dL_law_2054 (by decide) ?_
  refine sc_ld hx hb hX hbl hS (show i + 2 < Ln by omega) hLn dL_law_2055 dL_law_2056 ?_
  refine lv_aload_n hx hb dL_law_2057 rfl (lv_at hl 1 rfl) ?_
  have hcl := hc S M (xs (i + 1)) (xs (i + 2)) hCP
  have hmz : mi_ok M := hmi
  refine ls_S (As := [.ref (g 0 0), .int (xs (i + 1)), .int (xs (i + 2)), .ref o]) (rest := []) hK hN hZ hS (fun _ h => h.1) (la_new hS.1 (mr_lt hM)) hR ⟨hI, hh⟩ (wt_ofFind l hfl E C (la_A s L) H.size g h S o v (xs (i + 1)) (xs (i + 2))) ⟨hx, hb, hml, hown, hts⟩ (vx_cwSW 4 hts (lw_SW q901 q902 q32 q903) rfl rfl rfl (by decide +kernel) ⟨Nat.le_of_ble_eq_true rfl, Nat.le_of_ble_eq_true rfl⟩) rfl hl.1 rfl (Nat.le_of_ble_eq_true rfl) dL_law_2058 ⟨(show _ ≤ 1200384 by omega), (show _ ≤ 5490858 by omega)⟩ (fun Xn ix v' H locs hxn hix hR hz hk hS => ?_) (fun r S' g' h' v' H locs hxn hg0 hh' hv' hR hz hk hS => ?_)
  · have hM := hM.kept (fun a ha hlt => hk a hlt (fun z => z.2 ha))
    obtain ⟨j, hj, ht, hCP2⟩ := hcl.1 Xn hxn
    have ej := li_ne (by decide) hix hj
    rw [← ej] at ht
    refine lv_istore (lv' := [(5, .int (nI (ix + 1))), (4, .int (nI i)), (3, .ref o), (2, .ref ym), (1, .ref (g 0 0)), (0, .ref b)]) hx hb dL_law_2061 hl (by decide) rfl (fun ls hl => ?_)
    refine lv_aload_n hx hb dL_law_2063 rfl (lv_at hl 3 rfl) ?_
    refine lv_aload_n hx hb dL_law_2064 rfl (lv_at hl 5 rfl) ?_
    refine lv_iload hx hb dL_law_2065 (lv_at hl 1 rfl) ?_
    refine lv_iconst (v := nI 1) hx hb dL_law_2067 (by decide) ?_
    refine sc_ld hx hb hX hbl hS (show i + 1 < Ln by omega) hLn dL_law_2068 dL_law_2069 ?_
    refine lv_aload_n hx hb dL_law_2070 rfl (lv_at hl 5 rfl) ?_
    refine lv_iload hx hb dL_law_2071 (lv_at hl 1 rfl) ?_
    refine lv_iconst (v := nI 2) hx hb dL_law_2073 (by decide) ?_
    refine sc_ld hx hb hX hbl hS (show i + 2 < Ln by omega) hLn dL_law_2074 dL_law_2075 ?_
    refine mr_calli (As := [.int (xs (i + 1)), .int (xs (i + 2))]) (rest := []) ⟨hx, hb, hml, hown, hts⟩ (mt_ofFind l E ym ad L M (xs (i + 1)) (xs (i + 2))) (cwV 2 hts (lw_V q1269 q1270 q1271 q41 q1272) rfl rfl rfl (by decide +kernel) ⟨Nat.le_of_ble_eq_true rfl, Nat.le_of_ble_eq_true rfl⟩) hmz hK.1 hM hL9 hS rfl hl.1 rfl (Nat.le_of_ble_eq_true rfl) dL_law_2076 ⟨(show _ ≤ 1200384 by omega), (show _ ≤ 5490858 by omega)⟩ (fun H locs hM hS hz hk => ?_)
    have hR := hR.kept (fun a ha hlt => hk a hlt (fun z => ha.2 z))
    refine W.eq (g2 := F0 m 2079 ls [.int (mf_ofFind M (xs (i + 1)) (xs (i + 2))).1]) rfl ?_
    refine lv_istore (lv' := [(6, .int (mf_ofFind M (xs (i + 1)) (xs (i + 2))).1), (5, .int (nI (ix + 1))), (4, .int (nI i)), (3, .ref o), (2, .ref ym), (1, .ref (g 0 0)), (0, .ref b)]) hx hb dL_law_2079 hl (by decide) rfl (fun ls hl => ?_)
    refine lv_aload_n hx hb dL_law_2081 rfl (lv_at hl 4 rfl) ?_
    refine mr_calli (As := []) (rest := []) ⟨hx, hb, hml, hown, hts⟩ (mt_thrown l E ym ad L (mf_ofFind M (xs (i + 1)) (xs (i + 2))).2) (cwV 0 hts (lw_V q1067 q1068 q1069 q41 q1070) rfl rfl rfl (by decide +kernel) ⟨Nat.le_of_ble_eq_true rfl, Nat.le_of_ble_eq_true rfl⟩) trivial hK.1 hM hL9 hS rfl hl.1 rfl (Nat.le_of_ble_eq_true rfl) dL_law_2082 ⟨(show _ ≤ 1200384 by omega), (show _ ≤ 5490858 by omega)⟩ (fun H locs hM hS hz hk => ?_)
    have hR := hR.kept (fun a ha hlt => hk a hlt (fun z => ha.2 z))
    refine W.eq (g2 := F0 m 2085 ls [.int (mf_thrown (mf_ofFind M (xs (i + 1)) (xs (i + 2))).2)]) rfl ?_
    refine lv_iload hx hb dL_law_2085 (lv_at hl 1 rfl) ?_
    refine lv_icmp_eq (tgt := 2092) hx hb dL_law_2087 (by decide) (fun _ => ?_) (fun h => absurd ht h)
    refine lv_iload hx hb dL_law_2092 (lv_at hl 1 rfl) ?_
    refine lv_if_ne (tgt := 2109) hx hb dL_law_2094 (by decide) (fun _ => ?_) (fun h => absurd h (li_n0 (by decide) hix))
    refine lv_goto (tgt := 2388) hx hb dL_law_2109 (by decide) ?_
    refine W.widen (k := cells + 870) (n := slots + 3850) (by omega) (by omega) ?_
    exact kk S (mf_ofFind M (xs (i + 1)) (xs (i + 2))).2 H locs ls ⟨hCP2, ⟨g, h, v', rfl, hh, hR⟩, hM⟩ hS (lv_sub hl [2, 3, 4, 5, 6] rfl)
  · have hM := hM.kept (fun a ha hlt => hk a hlt (fun z => z.2 ha))
    obtain ⟨ht, hr, hCP2⟩ := hcl.2 r S' hxn
    refine lv_istore (lv' := [(5, .int 0), (4, .int (nI i)), (3, .ref o), (2, .ref ym), (1, .ref (g 0 0)), (0, .ref b)]) hx hb dL_law_2061 hl (by decide) rfl (fun ls hl => ?_)
    refine lv_aload_n hx hb dL_law_2063 rfl (lv_at hl 3 rfl) ?_
    refine lv_aload_n hx hb dL_law_2064 rfl (lv_at hl 5 rfl) ?_
    refine lv_iload hx hb dL_law_2065 (lv_at hl 1 rfl) ?_
    refine lv_iconst (v := nI 1) hx hb dL_law_2067 (by decide) ?_
    refine sc_ld hx hb hX hbl hS (show i + 1 < Ln by omega) hLn dL_law_2068 dL_law_2069 ?_
    refine lv_aload_n hx hb dL_law_2070 rfl (lv_at hl 5 rfl) ?_
    refine lv_iload hx hb dL_law_2071 (lv_at hl 1 rfl) ?_
    refine lv_iconst (v := nI 2) hx hb dL_law_2073 (by decide) ?_
    refine sc_ld hx hb hX hbl hS (show i + 2 < Ln by omega) hLn dL_law_2074 dL_law_2075 ?_
    refine mr_calli (As := [.int (xs (i + 1)), .int (xs (i + 2))]) (rest := []) ⟨hx, hb, hml, hown, hts⟩ (mt_ofFind l E ym ad L M (xs (i + 1)) (xs (i + 2))) (cwV 2 hts (lw_V q1269 q1270 q1271 q41 q1272) rfl rfl rfl (by decide +kernel) ⟨Nat.le_of_ble_eq_true rfl, Nat.le_of_ble_eq_true rfl⟩) hmz hK.1 hM hL9 hS rfl hl.1 rfl (Nat.le_of_ble_eq_true rfl) dL_law_2076 ⟨(show _ ≤ 1200384 by omega), (show _ ≤ 5490858 by omega)⟩ (fun H locs hM hS hz hk => ?_)
    have hR := hR.kept (fun a ha hlt => hk a hlt (fun z => ha.2 z))
    refine W.eq (g2 := F0 m 2079 ls [.int (mf_ofFind M (xs (i + 1)) (xs (i + 2))).1]) rfl ?_
    refine lv_istore (lv' := [(6, .int (mf_ofFind M (xs (i + 1)) (xs (i + 2))).1), (5, .int 0), (4, .int (nI i)), (3, .ref o), (2, .ref ym), (1, .ref (g 0 0)), (0, .ref b)]) hx hb dL_law_2079 hl (by decide) rfl (fun ls hl => ?_)
    refine lv_aload_n hx hb dL_law_2081 rfl (lv_at hl 4 rfl) ?_
    refine mr_calli (As := []) (rest := []) ⟨hx, hb, hml, hown, hts⟩ (mt_thrown l E ym ad L (mf_ofFind M (xs (i + 1)) (xs (i + 2))).2) (cwV 0 hts (lw_V q1067 q1068 q1069 q41 q1070) rfl rfl rfl (by decide +kernel) ⟨Nat.le_of_ble_eq_true rfl, Nat.le_of_ble_eq_true rfl⟩) trivial hK.1 hM hL9 hS rfl hl.1 rfl (Nat.le_of_ble_eq_true rfl) dL_law_2082 ⟨(show _ ≤ 1200384 by omega), (show _ ≤ 5490858 by omega)⟩ (fun H locs hM hS hz hk => ?_)
    have hR := hR.kept (fun a ha hlt => hk a hlt (fun z => ha.2 z))
    refine W.eq (g2 := F0 m 2085 ls [.int (mf_thrown (mf_ofFind M (xs (i + 1)) (xs (i + 2))).2)]) rfl ?_
    refine lv_iload hx hb dL_law_2085 (lv_at hl 1 rfl) ?_
    refine lv_icmp_eq (tgt := 2092) hx hb dL_law_2087 (by decide) (fun _ => ?_) (fun h => absurd ht h)
    refine lv_iload hx hb dL_law_2092 (lv_at hl 1 rfl) ?_
    refine lv_if_ne (tgt := 2109) hx hb dL_law_2094 (by decide) (fun h => absurd rfl h) (fun _ => ?_)
    refine lv_aload_n hx hb dL_law_2097 rfl (lv_at hl 3 rfl) ?_
    refine lv_iconst (v := 0) hx hb dL_law_2098 (by decide) ?_
    refine xo_lald hx hb hK.1 hR dL_law_2099 ?_
    refine lv_iload hx hb dL_law_2100 (lv_at hl 0 rfl) ?_
    refine lv_i2l (v := (mf_ofFind M (xs (i + 1)) (xs (i + 2))).1.toInt64) hx hb dL_law_2102 rfl ?_
    have hvv : v' 0 = (mf_ofFind M (xs (i + 1)) (xs (i + 2))).1.toInt64 := by rw [hv', hr]
    refine W.eq (g2 := F0 m 2103 ls [.long ((mf_ofFind M (xs (i + 1)) (xs (i + 2))).1.toInt64), .long ((mf_ofFind M (xs (i + 1)) (xs (i + 2))).1.toInt64)]) (congrArg (fun z => F0 m 2103 ls [.long ((mf_ofFind M (xs (i + 1)) (xs (i + 2))).1.toInt64), .long z]) hvv) ?_
    refine lv_lcmpE hx hb dL_law_2103 ?_
    refine lv_if_eq (tgt := 2109) hx hb dL_law_2104 (by decide) (fun _ => ?_) (fun h => absurd rfl h)
    refine lv_goto (tgt := 2388) hx hb dL_law_2109 (by decide) ?_
    refine W.widen (k := cells + 870) (n := slots + 3850) (by omega) (by omega) ?_
    exact kk S' (mf_ofFind M (xs (i + 1)) (xs (i + 2))).2 H locs ls ⟨hCP2, ⟨g', h', v', hg0, hh', hR⟩, hM⟩ hS (lv_sub hl [2, 3, 4, 5, 6] rfl)
set_option maxHeartbeats 2000000 in
set_option maxRecDepth 100000 in
theorem lc_hand {CP : gs_T → gs_T → Prop} (hCPi : ∀ S M, CP S M → xi_ok S ∧ mi_ok M) (hc : ∀ S M (p1 : Int32) (p2 : Int32) (p3 : Int32), CP S M → cl_P CP ["java/lang/IndexOutOfBoundsException"] (xp_hand S p1 p2 p3) (mf_hand M p1 p2 p3).1 (mf_hand M p1 p2 p3).2 S) {l : Launch} {p : Program} {e : Env} {s : State} {m : MethodId} {below : List Frame} {meth : Method} {c : Code} {H : Heap} {locs : List Loc} {cells slots : Nat} {Q : State → Prop} {ls : Array Slot} {b Ln i : Nat} {xs : Nat → Int32} {E : en_T} {C : ex_C} {x0 ym o : Nat} {ad : Nat → Nat} {L : List Nat} {S M : gs_T} (hE : le_E l p s m meth c b Ln xs E C ym L) (hi : i + 8 ≤ Ln) (hW : LW CP E C s x0 ym o ad L S M H) (hS : va_S (la_9 s) s.heap H locs) (hl : lv_has ls 7 [(4, .int (nI i)), (3, .ref o), (2, .ref ym), (1, .ref x0), (0, .ref b)]) (hf : cells + 870 ≤ 1200384 ∧ slots + 3850 ≤ 5490858) (kk : ∀ (S' M' : gs_T) (H' : Heap) (locs' : List Loc) (ls' : Array Slot), LW CP E C s x0 ym o ad L S' M' H' → va_S (la_9 s) s.heap H' locs' → lv_has ls' 7 [(4, .int (nI i)), (3, .ref o), (2, .ref ym), (1, .ref x0), (0, .ref b)] → W p l e room_1 s m #[.ref b] below meth c H' locs' (cells + 870) (slots + 3850) Q (F0 m 2388 ls' [])) : W p l e room_1 s m #[.ref b] below meth c H locs cells slots Q (F0 m 2112 ls []) := by
  obtain ⟨hx, hb, hml, hown, hts, hX, hbl, hK, hN, hZ, hfl, hL9, hLn⟩ := hE
  obtain ⟨hCP, ⟨g, h, v, hg0, hh, hR⟩, hM⟩ := hW
  obtain ⟨hI, hmi⟩ := hCPi S M hCP
  subst hg0
  refine lv_aload_n hx hb dL_law_2112 rfl (lv_at hl 3 rfl) ?_
  refine lv_aload_n hx hb dL_law_2113 rfl (lv_at hl 4 rfl) ?_
  refine lv_iload hx hb dL_law_2114 (lv_at hl 0 rfl) ?_
  refine lv_iconst (v := nI 1) hx hb dL_law_2116 (by decide) ?_
  refine sc_ld hx hb hX hbl hS (show i + 1 < Ln by omega) hLn dL_law_2117 dL_law_2118 ?_
  refine lv_aload_n hx hb dL_law_2119 rfl (lv_at hl 4 rfl) ?_
  refine lv_iload hx hb dL_law_2120 (lv_at hl 0 rfl) ?_
  refine lv_iconst (v := nI 2) hx hb dL_law_2122 (by decide) ?_
  refine sc_ld hx hb hX hbl hS (show i + 2 < Ln by omega) hLn dL_law_2123 dL_law_2124 ?_
  refine lv_aload_n hx hb dL_law_2125 rfl (lv_at hl 4 rfl) ?_
  refine lv_iload hx hb dL_law_2126 (lv_at hl 0 rfl) ?_
  refine lv_iconst (v := nI 3) hx hb dL_law_2128 (by decide) ?_
  refine sc_ld hx hb hX hbl hS (show i + 3 < Ln by omega) hLn dL_law_2129 dL_law_2130 ?_
  refine sc_ne hx hb dL_law_2131 dL_law_2134 dL_law_2135 dL_law_2138 ?_
  refine lv_aload_n hx hb dL_law_2139 rfl (lv_at hl 1 rfl) ?_
  have hcl := hc S M (xs (i + 1)) (xs (i + 2)) (if xs (i + 3) = 0 then (0 : Int32) else 1) hCP
  have hmz : mi_ok M := hmi
  refine ls_S (As := [.ref (g 0 0), .int (xs (i + 1)), .int (xs (i + 2)), .int (if xs (i + 3) = 0 then (0 : Int32) else 1), .ref o]) (rest := []) hK hN hZ hS (fun _ h => h.1) (la_new hS.1 (mr_lt hM)) hR ⟨hI, hh⟩ (wt_hand l hfl E C (la_A s L) H.size g h S o v (xs (i + 1)) (xs (i + 2)) (if xs (i + 3) = 0 then (0 : Int32) else 1)) ⟨hx, hb, hml, hown, hts⟩ (vx_cwSW 5 hts (lw_SW q908 q909 q32 q910) rfl rfl rfl (by decide +kernel) ⟨Nat.le_of_ble_eq_true rfl, Nat.le_of_ble_eq_true rfl⟩) rfl hl.1 rfl (Nat.le_of_ble_eq_true rfl) dL_law_2140 ⟨(show _ ≤ 1200384 by omega), (show _ ≤ 5490858 by omega)⟩ (fun Xn ix v' H locs hxn hix hR hz hk hS => ?_) (fun r S' g' h' v' H locs hxn hg0 hh' hv' hR hz hk hS => ?_)
  · have hM := hM.kept (fun a ha hlt => hk a hlt (fun z => z.2 ha))
    obtain ⟨j, hj, ht, hCP2⟩ := hcl.1 Xn hxn
    have ej := li_ne (by decide) hix hj
    rw [← ej] at ht
    refine lv_istore (lv' := [(5, .int (nI (ix + 1))), (4, .int (nI i)), (3, .ref o), (2, .ref ym), (1, .ref (g 0 0)), (0, .ref b)]) hx hb dL_law_2143 hl (by decide) rfl (fun ls hl => ?_)
    refine lv_aload_n hx hb dL_law_2145 rfl (lv_at hl 3 rfl) ?_
    refine lv_aload_n hx hb dL_law_2146 rfl (lv_at hl 5 rfl) ?_
    refine lv_iload hx hb dL_law_2147 (lv_at hl 1 rfl) ?_
    refine lv_iconst (v := nI 1) hx hb dL_law_2149 (by decide) ?_
    refine sc_ld hx hb hX hbl hS (show i + 1 < Ln by omega) hLn dL_law_2150 dL_law_2151 ?_
    refine lv_aload_n hx hb dL_law_2152 rfl (lv_at hl 5 rfl) ?_
    refine lv_iload hx hb dL_law_2153 (lv_at hl 1 rfl) ?_
    refine lv_iconst (v := nI 2) hx hb dL_law_2155 (by decide) ?_
    refine sc_ld hx hb hX hbl hS (show i + 2 < Ln by omega) hLn dL_law_2156 dL_law_2157 ?_
    refine lv_aload_n hx hb dL_law_2158 rfl (lv_at hl 5 rfl) ?_
    refine lv_iload hx hb dL_law_2159 (lv_at hl 1 rfl) ?_
    refine lv_iconst (v := nI 3) hx hb dL_law_2161 (by decide) ?_
    refine sc_ld hx hb hX hbl hS (show i + 3 < Ln by omega) hLn dL_law_2162 dL_law_2163 ?_
    refine sc_ne hx hb dL_law_2164 dL_law_2167 dL_law_2168 dL_law_2171 ?_
    refine mr_calli (As := [.int (xs (i + 1)), .int (xs (i + 2)), .int (if xs (i + 3) = 0 then (0 : Int32) else 1)]) (rest := []) ⟨hx, hb, hml, hown, hts⟩ (mt_hand l E ym ad L M (xs (i + 1)) (xs (i + 2)) (if xs (i + 3) = 0 then (0 : Int32) else 1)) (cwV 3 hts (lw_V q1273 q1274 q1275 q41 q1276) rfl rfl rfl (by decide +kernel) ⟨Nat.le_of_ble_eq_true rfl, Nat.le_of_ble_eq_true rfl⟩) hmz hK.1 hM hL9 hS rfl hl.1 rfl (Nat.le_of_ble_eq_true rfl) dL_law_2172 ⟨(show _ ≤ 1200384 by omega), (show _ ≤ 5490858 by omega)⟩ (fun H locs hM hS hz hk => ?_)
    have hR := hR.kept (fun a ha hlt => hk a hlt (fun z => ha.2 z))
    refine W.eq (g2 := F0 m 2175 ls [.int (mf_hand M (xs (i + 1)) (xs (i + 2)) (if xs (i + 3) = 0 then (0 : Int32) else 1)).1]) rfl ?_
    refine lv_istore (lv' := [(6, .int (mf_hand M (xs (i + 1)) (xs (i + 2)) (if xs (i + 3) = 0 then (0 : Int32) else 1)).1), (5, .int (nI (ix + 1))), (4, .int (nI i)), (3, .ref o), (2, .ref ym), (1, .ref (g 0 0)), (0, .ref b)]) hx hb dL_law_2175 hl (by decide) rfl (fun ls hl => ?_)
    refine lv_aload_n hx hb dL_law_2177 rfl (lv_at hl 4 rfl) ?_
    refine mr_calli (As := []) (rest := []) ⟨hx, hb, hml, hown, hts⟩ (mt_thrown l E ym ad L (mf_hand M (xs (i + 1)) (xs (i + 2)) (if xs (i + 3) = 0 then (0 : Int32) else 1)).2) (cwV 0 hts (lw_V q1067 q1068 q1069 q41 q1070) rfl rfl rfl (by decide +kernel) ⟨Nat.le_of_ble_eq_true rfl, Nat.le_of_ble_eq_true rfl⟩) trivial hK.1 hM hL9 hS rfl hl.1 rfl (Nat.le_of_ble_eq_true rfl) dL_law_2178 ⟨(show _ ≤ 1200384 by omega), (show _ ≤ 5490858 by omega)⟩ (fun H locs hM hS hz hk => ?_)
    have hR := hR.kept (fun a ha hlt => hk a hlt (fun z => ha.2 z))
    refine W.eq (g2 := F0 m 2181 ls [.int (mf_thrown (mf_hand M (xs (i + 1)) (xs (i + 2)) (if xs (i + 3) = 0 then (0 : Int32) else 1)).2)]) rfl ?_
    refine lv_iload hx hb dL_law_2181 (lv_at hl 1 rfl) ?_
    refine lv_icmp_eq (tgt := 2188) hx hb dL_law_2183 (by decide) (fun _ => ?_) (fun h => absurd ht h)
    refine lv_iload hx hb dL_law_2188 (lv_at hl 1 rfl) ?_
    refine lv_if_ne (tgt := 2205) hx hb dL_law_2190 (by decide) (fun _ => ?_) (fun h => absurd h (li_n0 (by decide) hix))
    refine lv_goto (tgt := 2388) hx hb dL_law_2205 (by decide) ?_
    refine W.widen (k := cells + 870) (n := slots + 3850) (by omega) (by omega) ?_
    exact kk S (mf_hand M (xs (i + 1)) (xs (i + 2)) (if xs (i + 3) = 0 then (0 : Int32) else 1)).2 H locs ls ⟨hCP2, ⟨g, h, v', rfl, hh, hR⟩, hM⟩ hS (lv_sub hl [2, 3, 4, 5, 6] rfl)
  · have hM := hM.kept (fun a ha hlt => hk a hlt (fun z => z.2 ha))
    obtain ⟨ht, hr, hCP2⟩ := hcl.2 r S' hxn
    refine lv_istore (lv' := [(5, .int 0), (4, .int (nI i)), (3, .ref o), (2, .ref ym), (1, .ref (g 0 0)), (0, .ref b)]) hx hb dL_law_2143 hl (by decide) rfl (fun ls hl => ?_)
    refine lv_aload_n hx hb dL_law_2145 rfl (lv_at hl 3 rfl) ?_
    refine lv_aload_n hx hb dL_law_2146 rfl (lv_at hl 5 rfl) ?_
    refine lv_iload hx hb dL_law_2147 (lv_at hl 1 rfl) ?_
    refine lv_iconst (v := nI 1) hx hb dL_law_2149 (by decide) ?_
    refine sc_ld hx hb hX hbl hS (show i + 1 < Ln by omega) hLn dL_law_2150 dL_law_2151 ?_
    refine lv_aload_n hx hb dL_law_2152 rfl (lv_at hl 5 rfl) ?_
    refine lv_iload hx hb dL_law_2153 (lv_at hl 1 rfl) ?_
    refine lv_iconst (v := nI 2) hx hb dL_law_2155 (by decide) ?_
    refine sc_ld hx hb hX hbl hS (show i + 2 < Ln by omega) hLn dL_law_2156 dL_law_2157 ?_
    refine lv_aload_n hx hb dL_law_2158 rfl (lv_at hl 5 rfl) ?_
    refine lv_iload hx hb dL_law_2159 (lv_at hl 1 rfl) ?_
    refine lv_iconst (v := nI 3) hx hb dL_law_2161 (by decide) ?_
    refine sc_ld hx hb hX hbl hS (show i + 3 < Ln by omega) hLn dL_law_2162 dL_law_2163 ?_
    refine sc_ne hx hb dL_law_2164 dL_law_2167 dL_law_2168 dL_law_2171 ?_
    refine mr_calli (As := [.int (xs (i + 1)), .int (xs (i + 2)), .int (if xs (i + 3) = 0 then (0 : Int32) else 1)]) (rest := []) ⟨hx, hb, hml, hown, hts⟩ (mt_hand l E ym ad L M (xs (i + 1)) (xs (i + 2)) (if xs (i + 3) = 0 then (0 : Int32) else 1)) (cwV 3 hts (lw_V q1273 q1274 q1275 q41 q1276) rfl rfl rfl (by decide +kernel) ⟨Nat.le_of_ble_eq_true rfl, Nat.le_of_ble_eq_true rfl⟩) hmz hK.1 hM hL9 hS rfl hl.1 rfl (Nat.le_of_ble_eq_true rfl) dL_law_2172 ⟨(show _ ≤ 1200384 by omega), (show _ ≤ 5490858 by omega)⟩ (fun H locs hM hS hz hk => ?_)
    have hR := hR.kept (fun a ha hlt => hk a hlt (fun z => ha.2 z))
    refine W.eq (g2 := F0 m 2175 ls [.int (mf_hand M (xs (i + 1)) (xs (i + 2)) (if xs (i + 3) = 0 then (0 : Int32) else 1)).1]) rfl ?_
    refine lv_istore (lv' := [(6, .int (mf_hand M (xs (i + 1)) (xs (i + 2)) (if xs (i + 3) = 0 then (0 : Int32) else 1)).1), (5, .int 0), (4, .int (nI i)), (3, .ref o), (2, .ref ym), (1, .ref (g 0 0)), (0, .ref b)]) hx hb dL_law_2175 hl (by decide) rfl (fun ls hl => ?_)
    refine lv_aload_n hx hb dL_law_2177 rfl (lv_at hl 4 rfl) ?_
    refine mr_calli (As := []) (rest := []) ⟨hx, hb, hml, hown, hts⟩ (mt_thrown l E ym ad L (mf_hand M (xs (i + 1)) (xs (i + 2)) (if xs (i + 3) = 0 then (0 : Int32) else 1)).2) (cwV 0 hts (lw_V q1067 q1068 q1069 q41 q1070) rfl rfl rfl (by decide +kernel) ⟨Nat.le_of_ble_eq_true rfl, Nat.le_of_ble_eq_true rfl⟩) trivial hK.1 hM hL9 hS rfl hl.1 rfl (Nat.le_of_ble_eq_true rfl) dL_law_2178 ⟨(show _ ≤ 1200384 by omega), (show _ ≤ 5490858 by omega)⟩ (fun H locs hM hS hz hk => ?_)
    have hR := hR.kept (fun a ha hlt => hk a hlt (fun z => ha.2 z))
    refine W.eq (g2 := F0 m 2181 ls [.int (mf_thrown (mf_hand M (xs (i + 1)) (xs (i + 2)) (if xs (i + 3) = 0 then (0 : Int32) else 1)).2)]) rfl ?_
    refine lv_iload hx hb dL_law_2181 (lv_at hl 1 rfl) ?_
    refine lv_icmp_eq (tgt := 2188) hx hb dL_law_2183 (by decide) (fun _ => ?_) (fun h => absurd ht h)
    refine lv_iload hx hb dL_law_2188 (lv_at hl 1 rfl) ?_
    refine lv_if_ne (tgt := 2205) hx hb dL_law_2190 (by decide) (fun h => absurd rfl h) (fun _ => ?_)
    refine lv_aload_n hx hb dL_law_2193 rfl (lv_at hl 3 rfl) ?_
    refine lv_iconst (v := 0) hx hb dL_law_2194 (by decide) ?_
    refine xo_lald hx hb hK.1 hR dL_law_2195 ?_
    refine lv_iload hx hb dL_law_2196 (lv_at hl 0 rfl) ?_
    refine lv_i2l (v := (mf_hand M (xs (i + 1)) (xs (i + 2)) (if xs (i + 3) = 0 then (0 : Int32) else 1)).1.toInt64) hx hb dL_law_2198 rfl ?_
    have hvv : v' 0 = (mf_hand M (xs (i + 1)) (xs (i + 2)) (if xs (i + 3) = 0 then (0 : Int32) else 1)).1.toInt64 := by rw [hv', hr]
    refine W.eq (g2 := F0 m 2199 ls [.long ((mf_hand M (xs (i + 1)) (xs (i + 2)) (if xs (i + 3) = 0 then (0 : Int32) else 1)).1.toInt64), .long ((mf_hand M (xs (i + 1)) (xs (i + 2)) (if xs (i + 3) = 0 then (0 : Int32) else 1)).1.toInt64)]) (congrArg (fun z => F0 m 2199 ls [.long ((mf_hand M (xs (i + 1)) (xs (i + 2)) (if xs (i + 3) = 0 then (0 : Int32) else 1)).1.toInt64), .long z]) hvv) ?_
    refine lv_lcmpE hx hb dL_law_2199 ?_
    refine lv_if_eq (tgt := 2205) hx hb dL_law_2200 (by decide) (fun _ => ?_) (fun h => absurd rfl h)
    refine lv_goto (tgt := 2388) hx hb dL_law_2205 (by decide) ?_
    refine W.widen (k := cells + 870) (n := slots + 3850) (by omega) (by omega) ?_
    exact kk S' (mf_hand M (xs (i + 1)) (xs (i + 2)) (if xs (i + 3) = 0 then (0 : Int32) else 1)).2 H locs ls ⟨hCP2, ⟨g', h', v', hg0, hh', hR⟩, hM⟩ hS (lv_sub hl [2, 3, 4, 5, 6] rfl)
set_option maxHeartbeats 2000000 in
set_option maxRecDepth 100000 in
theorem lc_ofClaim {CP : gs_T → gs_T → Prop} (hCPi : ∀ S M, CP S M → xi_ok S ∧ mi_ok M) (hc : ∀ S M (p1 : Int32) (p2 : Int32), CP S M → cl_P CP ["java/lang/IndexOutOfBoundsException", "java/lang/IllegalArgumentException"] (xp_ofClaim S p1 p2) (mf_ofClaim M p1 p2).1 (mf_ofClaim M p1 p2).2 S) {l : Launch} {p : Program} {e : Env} {s : State} {m : MethodId} {below : List Frame} {meth : Method} {c : Code} {H : Heap} {locs : List Loc} {cells slots : Nat} {Q : State → Prop} {ls : Array Slot} {b Ln i : Nat} {xs : Nat → Int32} {E : en_T} {C : ex_C} {x0 ym o : Nat} {ad : Nat → Nat} {L : List Nat} {S M : gs_T} (hE : le_E l p s m meth c b Ln xs E C ym L) (hi : i + 8 ≤ Ln) (hW : LW CP E C s x0 ym o ad L S M H) (hS : va_S (la_9 s) s.heap H locs) (hl : lv_has ls 7 [(4, .int (nI i)), (3, .ref o), (2, .ref ym), (1, .ref x0), (0, .ref b)]) (hf : cells + 870 ≤ 1200384 ∧ slots + 3850 ≤ 5490858) (kk : ∀ (S' M' : gs_T) (H' : Heap) (locs' : List Loc) (ls' : Array Slot), LW CP E C s x0 ym o ad L S' M' H' → va_S (la_9 s) s.heap H' locs' → lv_has ls' 7 [(4, .int (nI i)), (3, .ref o), (2, .ref ym), (1, .ref x0), (0, .ref b)] → W p l e room_1 s m #[.ref b] below meth c H' locs' (cells + 870) (slots + 3850) Q (F0 m 2388 ls' [])) : W p l e room_1 s m #[.ref b] below meth c H locs cells slots Q (F0 m 2208 ls []) := by
  obtain ⟨hx, hb, hml, hown, hts, hX, hbl, hK, hN, hZ, hfl, hL9, hLn⟩ := hE
  obtain ⟨hCP, ⟨g, h, v, hg0, hh, hR⟩, hM⟩ := hW
  obtain ⟨hI, hmi⟩ := hCPi S M hCP
  subst hg0
  refine lv_aload_n hx hb dL_law_2208 rfl (lv_at hl 3 rfl) ?_
  refine lv_aload_n hx hb dL_law_2209 rfl (lv_at hl 4 rfl) ?_
  refine lv_iload hx hb dL_law_2210 (lv_at hl 0 rfl) ?_
  refine lv_iconst (v := nI 1) hx hb dL_law_2212 (by decide) ?_
  refine sc_ld hx hb hX hbl hS (show i + 1 < Ln by omega) hLn dL_law_2213 dL_law_2214 ?_
  refine lv_aload_n hx hb dL_law_2215 rfl (lv_at hl 4 rfl) ?_
  refine lv_iload hx hb dL_law_2216 (lv_at hl 0 rfl) ?_
  refine lv_iconst (v := nI 2) hx hb dL_law_2218 (by decide) ?_
  refine sc_ld hx hb hX hbl hS (show i + 2 < Ln by omega) hLn dL_law_2219 dL_law_2220 ?_
  refine lv_aload_n hx hb dL_law_2221 rfl (lv_at hl 1 rfl) ?_
  have hcl := hc S M (xs (i + 1)) (xs (i + 2)) hCP
  have hmz : mi_ok M := hmi
  refine ls_S (As := [.ref (g 0 0), .int (xs (i + 1)), .int (xs (i + 2)), .ref o]) (rest := []) hK hN hZ hS (fun _ h => h.1) (la_new hS.1 (mr_lt hM)) hR ⟨hI, hh⟩ (wt_ofClaim l hfl E C (la_A s L) H.size g h S o v (xs (i + 1)) (xs (i + 2))) ⟨hx, hb, hml, hown, hts⟩ (vx_cwSW 4 hts (lw_SW q924 q925 q32 q926) rfl rfl rfl (by decide +kernel) ⟨Nat.le_of_ble_eq_true rfl, Nat.le_of_ble_eq_true rfl⟩) rfl hl.1 rfl (Nat.le_of_ble_eq_true rfl) dL_law_2222 ⟨(show _ ≤ 1200384 by omega), (show _ ≤ 5490858 by omega)⟩ (fun Xn ix v' H locs hxn hix hR hz hk hS => ?_) (fun r S' g' h' v' H locs hxn hg0 hh' hv' hR hz hk hS => ?_)
  · have hM := hM.kept (fun a ha hlt => hk a hlt (fun z => z.2 ha))
    obtain ⟨j, hj, ht, hCP2⟩ := hcl.1 Xn hxn
    have ej := li_ne (by decide) hix hj
    rw [← ej] at ht
    refine lv_istore (lv' := [(5, .int (nI (ix + 1))), (4, .int (nI i)), (3, .ref o), (2, .ref ym), (1, .ref (g 0 0)), (0, .ref b)]) hx hb dL_law_2225 hl (by decide) rfl (fun ls hl => ?_)
    refine lv_aload_n hx hb dL_law_2227 rfl (lv_at hl 3 rfl) ?_
    refine lv_aload_n hx hb dL_law_2228 rfl (lv_at hl 5 rfl) ?_
    refine lv_iload hx hb dL_law_2229 (lv_at hl 1 rfl) ?_
    refine lv_iconst (v := nI 1) hx hb dL_law_2231 (by decide) ?_
    refine sc_ld hx hb hX hbl hS (show i + 1 < Ln by omega) hLn dL_law_2232 dL_law_2233 ?_
    refine lv_aload_n hx hb dL_law_2234 rfl (lv_at hl 5 rfl) ?_
    refine lv_iload hx hb dL_law_2235 (lv_at hl 1 rfl) ?_
    refine lv_iconst (v := nI 2) hx hb dL_law_2237 (by decide) ?_
    refine sc_ld hx hb hX hbl hS (show i + 2 < Ln by omega) hLn dL_law_2238 dL_law_2239 ?_
    refine mr_calli (As := [.int (xs (i + 1)), .int (xs (i + 2))]) (rest := []) ⟨hx, hb, hml, hown, hts⟩ (mt_ofClaim l E ym ad L M (xs (i + 1)) (xs (i + 2))) (cwV 2 hts (lw_V q1277 q1278 q1279 q41 q1280) rfl rfl rfl (by decide +kernel) ⟨Nat.le_of_ble_eq_true rfl, Nat.le_of_ble_eq_true rfl⟩) hmz hK.1 hM hL9 hS rfl hl.1 rfl (Nat.le_of_ble_eq_true rfl) dL_law_2240 ⟨(show _ ≤ 1200384 by omega), (show _ ≤ 5490858 by omega)⟩ (fun H locs hM hS hz hk => ?_)
    have hR := hR.kept (fun a ha hlt => hk a hlt (fun z => ha.2 z))
    refine W.eq (g2 := F0 m 2243 ls [.int (mf_ofClaim M (xs (i + 1)) (xs (i + 2))).1]) rfl ?_
    refine lv_istore (lv' := [(6, .int (mf_ofClaim M (xs (i + 1)) (xs (i + 2))).1), (5, .int (nI (ix + 1))), (4, .int (nI i)), (3, .ref o), (2, .ref ym), (1, .ref (g 0 0)), (0, .ref b)]) hx hb dL_law_2243 hl (by decide) rfl (fun ls hl => ?_)
    refine lv_aload_n hx hb dL_law_2245 rfl (lv_at hl 4 rfl) ?_
    refine mr_calli (As := []) (rest := []) ⟨hx, hb, hml, hown, hts⟩ (mt_thrown l E ym ad L (mf_ofClaim M (xs (i + 1)) (xs (i + 2))).2) (cwV 0 hts (lw_V q1067 q1068 q1069 q41 q1070) rfl rfl rfl (by decide +kernel) ⟨Nat.le_of_ble_eq_true rfl, Nat.le_of_ble_eq_true rfl⟩) trivial hK.1 hM hL9 hS rfl hl.1 rfl (Nat.le_of_ble_eq_true rfl) dL_law_2246 ⟨(show _ ≤ 1200384 by omega), (show _ ≤ 5490858 by omega)⟩ (fun H locs hM hS hz hk => ?_)
    have hR := hR.kept (fun a ha hlt => hk a hlt (fun z => ha.2 z))
    refine W.eq (g2 := F0 m 2249 ls [.int (mf_thrown (mf_ofClaim M (xs (i + 1)) (xs (i + 2))).2)]) rfl ?_
    refine lv_iload hx hb dL_law_2249 (lv_at hl 1 rfl) ?_
    refine lv_icmp_eq (tgt := 2256) hx hb dL_law_2251 (by decide) (fun _ => ?_) (fun h => absurd ht h)
    refine lv_iload hx hb dL_law_2256 (lv_at hl 1 rfl) ?_
    refine lv_if_ne (tgt := 2273) hx hb dL_law_2258 (by decide) (fun _ => ?_) (fun h => absurd h (li_n0 (by decide) hix))
    refine lv_goto (tgt := 2388) hx hb dL_law_2273 (by decide) ?_
    refine W.widen (k := cells + 870) (n := slots + 3850) (by omega) (by omega) ?_
    exact kk S (mf_ofClaim M (xs (i + 1)) (xs (i + 2))).2 H locs ls ⟨hCP2, ⟨g, h, v', rfl, hh, hR⟩, hM⟩ hS (lv_sub hl [2, 3, 4, 5, 6] rfl)
  · have hM := hM.kept (fun a ha hlt => hk a hlt (fun z => z.2 ha))
    obtain ⟨ht, hr, hCP2⟩ := hcl.2 r S' hxn
    refine lv_istore (lv' := [(5, .int 0), (4, .int (nI i)), (3, .ref o), (2, .ref ym), (1, .ref (g 0 0)), (0, .ref b)]) hx hb dL_law_2225 hl (by decide) rfl (fun ls hl => ?_)
    refine lv_aload_n hx hb dL_law_2227 rfl (lv_at hl 3 rfl) ?_
    refine lv_aload_n hx hb dL_law_2228 rfl (lv_at hl 5 rfl) ?_
    refine lv_iload hx hb dL_law_2229 (lv_at hl 1 rfl) ?_
    refine lv_iconst (v := nI 1) hx hb dL_law_2231 (by decide) ?_
    refine sc_ld hx hb hX hbl hS (show i + 1 < Ln by omega) hLn dL_law_2232 dL_law_2233 ?_
    refine lv_aload_n hx hb dL_law_2234 rfl (lv_at hl 5 rfl) ?_
    refine lv_iload hx hb dL_law_2235 (lv_at hl 1 rfl) ?_
    refine lv_iconst (v := nI 2) hx hb dL_law_2237 (by decide) ?_
    refine sc_ld hx hb hX hbl hS (show i + 2 < Ln by omega) hLn dL_law_2238 dL_law_2239 ?_
    refine mr_calli (As := [.int (xs (i + 1)), .int (xs (i + 2))]) (rest := []) ⟨hx, hb, hml, hown, hts⟩ (mt_ofClaim l E ym ad L M (xs (i + 1)) (xs (i + 2))) (cwV 2 hts (lw_V q1277 q1278 q1279 q41 q1280) rfl rfl rfl (by decide +kernel) ⟨Nat.le_of_ble_eq_true rfl, Nat.le_of_ble_eq_true rfl⟩) hmz hK.1 hM hL9 hS rfl hl.1 rfl (Nat.le_of_ble_eq_true rfl) dL_law_2240 ⟨(show _ ≤ 1200384 by omega), (show _ ≤ 5490858 by omega)⟩ (fun H locs hM hS hz hk => ?_)
    have hR := hR.kept (fun a ha hlt => hk a hlt (fun z => ha.2 z))
    refine W.eq (g2 := F0 m 2243 ls [.int (mf_ofClaim M (xs (i + 1)) (xs (i + 2))).1]) rfl ?_
    refine lv_istore (lv' := [(6, .int (mf_ofClaim M (xs (i + 1)) (xs (i + 2))).1), (5, .int 0), (4, .int (nI i)), (3, .ref o), (2, .ref ym), (1, .ref (g 0 0)), (0, .ref b)]) hx hb dL_law_2243 hl (by decide) rfl (fun ls hl => ?_)
    refine lv_aload_n hx hb dL_law_2245 rfl (lv_at hl 4 rfl) ?_
    refine mr_calli (As := []) (rest := []) ⟨hx, hb, hml, hown, hts⟩ (mt_thrown l E ym ad L (mf_ofClaim M (xs (i + 1)) (xs (i + 2))).2) (cwV 0 hts (lw_V q1067 q1068 q1069 q41 q1070) rfl rfl rfl (by decide +kernel) ⟨Nat.le_of_ble_eq_true rfl, Nat.le_of_ble_eq_true rfl⟩) trivial hK.1 hM hL9 hS rfl hl.1 rfl (Nat.le_of_ble_eq_true rfl) dL_law_2246 ⟨(show _ ≤ 1200384 by omega), (show _ ≤ 5490858 by omega)⟩ (fun H locs hM hS hz hk => ?_)
    have hR := hR.kept (fun a ha hlt => hk a hlt (fun z => ha.2 z))
    refine W.eq (g2 := F0 m 2249 ls [.int (mf_thrown (mf_ofClaim M (xs (i + 1)) (xs (i + 2))).2)]) rfl ?_
    refine lv_iload hx hb dL_law_2249 (lv_at hl 1 rfl) ?_
    refine lv_icmp_eq (tgt := 2256) hx hb dL_law_2251 (by decide) (fun _ => ?_) (fun h => absurd ht h)
    refine lv_iload hx hb dL_law_2256 (lv_at hl 1 rfl) ?_
    refine lv_if_ne (tgt := 2273) hx hb dL_law_2258 (by decide) (fun h => absurd rfl h) (fun _ => ?_)
    refine lv_aload_n hx hb dL_law_2261 rfl (lv_at hl 3 rfl) ?_
    refine lv_iconst (v := 0) hx hb dL_law_2262 (by decide) ?_
    refine xo_lald hx hb hK.1 hR dL_law_2263 ?_
    refine lv_iload hx hb dL_law_2264 (lv_at hl 0 rfl) ?_
    refine lv_i2l (v := (mf_ofClaim M (xs (i + 1)) (xs (i + 2))).1.toInt64) hx hb dL_law_2266 rfl ?_
    have hvv : v' 0 = (mf_ofClaim M (xs (i + 1)) (xs (i + 2))).1.toInt64 := by rw [hv', hr]
    refine W.eq (g2 := F0 m 2267 ls [.long ((mf_ofClaim M (xs (i + 1)) (xs (i + 2))).1.toInt64), .long ((mf_ofClaim M (xs (i + 1)) (xs (i + 2))).1.toInt64)]) (congrArg (fun z => F0 m 2267 ls [.long ((mf_ofClaim M (xs (i + 1)) (xs (i + 2))).1.toInt64), .long z]) hvv) ?_
    refine lv_lcmpE hx hb dL_law_2267 ?_
    refine lv_if_eq (tgt := 2273) hx hb dL_law_2268 (by decide) (fun _ => ?_) (fun h => absurd rfl h)
    refine lv_goto (tgt := 2388) hx hb dL_law_2273 (by decide) ?_
    refine W.widen (k := cells + 870) (n := slots + 3850) (by omega) (by omega) ?_
    exact kk S' (mf_ofClaim M (xs (i + 1)) (xs (i + 2))).2 H locs ls ⟨hCP2, ⟨g', h', v', hg0, hh', hR⟩, hM⟩ hS (lv_sub hl [2, 3, 4, 5, 6] rfl)
set_option maxHeartbeats 2000000 in
set_option maxRecDepth 100000 in
theorem lc_money {CP : gs_T → gs_T → Prop} (hCPi : ∀ S M, CP S M → xi_ok S ∧ mi_ok M) (hc : ∀ S M (p1 : Int32), CP S M → cl_P CP ["java/lang/IllegalArgumentException"] (xp_money S p1) (mf_money M p1).1 (mf_money M p1).2 S) {l : Launch} {p : Program} {e : Env} {s : State} {m : MethodId} {below : List Frame} {meth : Method} {c : Code} {H : Heap} {locs : List Loc} {cells slots : Nat} {Q : State → Prop} {ls : Array Slot} {b Ln i : Nat} {xs : Nat → Int32} {E : en_T} {C : ex_C} {x0 ym o : Nat} {ad : Nat → Nat} {L : List Nat} {S M : gs_T} (hE : le_E l p s m meth c b Ln xs E C ym L) (hi : i + 8 ≤ Ln) (hW : LW CP E C s x0 ym o ad L S M H) (hS : va_S (la_9 s) s.heap H locs) (hl : lv_has ls 7 [(4, .int (nI i)), (3, .ref o), (2, .ref ym), (1, .ref x0), (0, .ref b)]) (hf : cells + 870 ≤ 1200384 ∧ slots + 3850 ≤ 5490858) (kk : ∀ (S' M' : gs_T) (H' : Heap) (locs' : List Loc) (ls' : Array Slot), LW CP E C s x0 ym o ad L S' M' H' → va_S (la_9 s) s.heap H' locs' → lv_has ls' 7 [(4, .int (nI i)), (3, .ref o), (2, .ref ym), (1, .ref x0), (0, .ref b)] → W p l e room_1 s m #[.ref b] below meth c H' locs' (cells + 870) (slots + 3850) Q (F0 m 2388 ls' [])) : W p l e room_1 s m #[.ref b] below meth c H locs cells slots Q (F0 m 2276 ls []) := by
  obtain ⟨hx, hb, hml, hown, hts, hX, hbl, hK, hN, hZ, hfl, hL9, hLn⟩ := hE
  obtain ⟨hCP, ⟨g, h, v, hg0, hh, hR⟩, hM⟩ := hW
  obtain ⟨hI, hmi⟩ := hCPi S M hCP
  subst hg0
  refine lv_aload_n hx hb dL_law_2276 rfl (lv_at hl 3 rfl) ?_
  refine lv_aload_n hx hb dL_law_2277 rfl (lv_at hl 4 rfl) ?_
  refine lv_iload hx hb dL_law_2278 (lv_at hl 0 rfl) ?_
  refine lv_iconst (v := nI 1) hx hb dL_law_2280 (by decide) ?_
  refine sc_ld hx hb hX hbl hS (show i + 1 < Ln by omega) hLn dL_law_2281 dL_law_2282 ?_
  refine lv_aload_n hx hb dL_law_2283 rfl (lv_at hl 1 rfl) ?_
  have hcl := hc S M (xs (i + 1)) hCP
  have hmz : mi_ok M := hmi
  refine ls_S (As := [.ref (g 0 0), .int (xs (i + 1)), .ref o]) (rest := []) hK hN hZ hS (fun _ h => h.1) (la_new hS.1 (mr_lt hM)) hR ⟨hI, hh⟩ (wt_money l hfl E C (la_A s L) H.size g h S o v (xs (i + 1))) ⟨hx, hb, hml, hown, hts⟩ (vx_cwSW 3 hts (lw_SW q931 q932 q32 q933) rfl rfl rfl (by decide +kernel) ⟨Nat.le_of_ble_eq_true rfl, Nat.le_of_ble_eq_true rfl⟩) rfl hl.1 rfl (Nat.le_of_ble_eq_true rfl) dL_law_2284 ⟨(show _ ≤ 1200384 by omega), (show _ ≤ 5490858 by omega)⟩ (fun Xn ix v' H locs hxn hix hR hz hk hS => ?_) (fun r S' g' h' v' H locs hxn hg0 hh' hv' hR hz hk hS => ?_)
  · have hM := hM.kept (fun a ha hlt => hk a hlt (fun z => z.2 ha))
    obtain ⟨j, hj, ht, hCP2⟩ := hcl.1 Xn hxn
    have ej := li_ne (by decide) hix hj
    rw [← ej] at ht
    refine lv_istore (lv' := [(5, .int (nI (ix + 1))), (4, .int (nI i)), (3, .ref o), (2, .ref ym), (1, .ref (g 0 0)), (0, .ref b)]) hx hb dL_law_2287 hl (by decide) rfl (fun ls hl => ?_)
    refine lv_aload_n hx hb dL_law_2289 rfl (lv_at hl 3 rfl) ?_
    refine lv_aload_n hx hb dL_law_2290 rfl (lv_at hl 5 rfl) ?_
    refine lv_iload hx hb dL_law_2291 (lv_at hl 1 rfl) ?_
    refine lv_iconst (v := nI 1) hx hb dL_law_2293 (by decide) ?_
    refine sc_ld hx hb hX hbl hS (show i + 1 < Ln by omega) hLn dL_law_2294 dL_law_2295 ?_
    refine mr_calli (As := [.int (xs (i + 1))]) (rest := []) ⟨hx, hb, hml, hown, hts⟩ (mt_money l E ym ad L M (xs (i + 1))) (cwV 1 hts (lw_V q1281 q1282 q1283 q41 q1284) rfl rfl rfl (by decide +kernel) ⟨Nat.le_of_ble_eq_true rfl, Nat.le_of_ble_eq_true rfl⟩) trivial hK.1 hM hL9 hS rfl hl.1 rfl (Nat.le_of_ble_eq_true rfl) dL_law_2296 ⟨(show _ ≤ 1200384 by omega), (show _ ≤ 5490858 by omega)⟩ (fun H locs hM hS hz hk => ?_)
    have hR := hR.kept (fun a ha hlt => hk a hlt (fun z => ha.2 z))
    refine W.eq (g2 := F0 m 2299 ls [.int (mf_money M (xs (i + 1))).1]) rfl ?_
    refine lv_istore (lv' := [(6, .int (mf_money M (xs (i + 1))).1), (5, .int (nI (ix + 1))), (4, .int (nI i)), (3, .ref o), (2, .ref ym), (1, .ref (g 0 0)), (0, .ref b)]) hx hb dL_law_2299 hl (by decide) rfl (fun ls hl => ?_)
    refine lv_aload_n hx hb dL_law_2301 rfl (lv_at hl 4 rfl) ?_
    refine mr_calli (As := []) (rest := []) ⟨hx, hb, hml, hown, hts⟩ (mt_thrown l E ym ad L (mf_money M (xs (i + 1))).2) (cwV 0 hts (lw_V q1067 q1068 q1069 q41 q1070) rfl rfl rfl (by decide +kernel) ⟨Nat.le_of_ble_eq_true rfl, Nat.le_of_ble_eq_true rfl⟩) trivial hK.1 hM hL9 hS rfl hl.1 rfl (Nat.le_of_ble_eq_true rfl) dL_law_2302 ⟨(show _ ≤ 1200384 by omega), (show _ ≤ 5490858 by omega)⟩ (fun H locs hM hS hz hk => ?_)
    have hR := hR.kept (fun a ha hlt => hk a hlt (fun z => ha.2 z))
    refine W.eq (g2 := F0 m 2305 ls [.int (mf_thrown (mf_money M (xs (i + 1))).2)]) rfl ?_
    refine lv_iload hx hb dL_law_2305 (lv_at hl 1 rfl) ?_
    refine lv_icmp_eq (tgt := 2312) hx hb dL_law_2307 (by decide) (fun _ => ?_) (fun h => absurd ht h)
    refine lv_iload hx hb dL_law_2312 (lv_at hl 1 rfl) ?_
    refine lv_if_ne (tgt := 2329) hx hb dL_law_2314 (by decide) (fun _ => ?_) (fun h => absurd h (li_n0 (by decide) hix))
    refine lv_goto (tgt := 2388) hx hb dL_law_2329 (by decide) ?_
    refine W.widen (k := cells + 870) (n := slots + 3850) (by omega) (by omega) ?_
    exact kk S (mf_money M (xs (i + 1))).2 H locs ls ⟨hCP2, ⟨g, h, v', rfl, hh, hR⟩, hM⟩ hS (lv_sub hl [2, 3, 4, 5, 6] rfl)
  · have hM := hM.kept (fun a ha hlt => hk a hlt (fun z => z.2 ha))
    obtain ⟨ht, hr, hCP2⟩ := hcl.2 r S' hxn
    refine lv_istore (lv' := [(5, .int 0), (4, .int (nI i)), (3, .ref o), (2, .ref ym), (1, .ref (g 0 0)), (0, .ref b)]) hx hb dL_law_2287 hl (by decide) rfl (fun ls hl => ?_)
    refine lv_aload_n hx hb dL_law_2289 rfl (lv_at hl 3 rfl) ?_
    refine lv_aload_n hx hb dL_law_2290 rfl (lv_at hl 5 rfl) ?_
    refine lv_iload hx hb dL_law_2291 (lv_at hl 1 rfl) ?_
    refine lv_iconst (v := nI 1) hx hb dL_law_2293 (by decide) ?_
    refine sc_ld hx hb hX hbl hS (show i + 1 < Ln by omega) hLn dL_law_2294 dL_law_2295 ?_
    refine mr_calli (As := [.int (xs (i + 1))]) (rest := []) ⟨hx, hb, hml, hown, hts⟩ (mt_money l E ym ad L M (xs (i + 1))) (cwV 1 hts (lw_V q1281 q1282 q1283 q41 q1284) rfl rfl rfl (by decide +kernel) ⟨Nat.le_of_ble_eq_true rfl, Nat.le_of_ble_eq_true rfl⟩) trivial hK.1 hM hL9 hS rfl hl.1 rfl (Nat.le_of_ble_eq_true rfl) dL_law_2296 ⟨(show _ ≤ 1200384 by omega), (show _ ≤ 5490858 by omega)⟩ (fun H locs hM hS hz hk => ?_)
    have hR := hR.kept (fun a ha hlt => hk a hlt (fun z => ha.2 z))
    refine W.eq (g2 := F0 m 2299 ls [.int (mf_money M (xs (i + 1))).1]) rfl ?_
    refine lv_istore (lv' := [(6, .int (mf_money M (xs (i + 1))).1), (5, .int 0), (4, .int (nI i)), (3, .ref o), (2, .ref ym), (1, .ref (g 0 0)), (0, .ref b)]) hx hb dL_law_2299 hl (by decide) rfl (fun ls hl => ?_)
    refine lv_aload_n hx hb dL_law_2301 rfl (lv_at hl 4 rfl) ?_
    refine mr_calli (As := []) (rest := []) ⟨hx, hb, hml, hown, hts⟩ (mt_thrown l E ym ad L (mf_money M (xs (i + 1))).2) (cwV 0 hts (lw_V q1067 q1068 q1069 q41 q1070) rfl rfl rfl (by decide +kernel) ⟨Nat.le_of_ble_eq_true rfl, Nat.le_of_ble_eq_true rfl⟩) trivial hK.1 hM hL9 hS rfl hl.1 rfl (Nat.le_of_ble_eq_true rfl) dL_law_2302 ⟨(show _ ≤ 1200384 by omega), (show _ ≤ 5490858 by omega)⟩ (fun H locs hM hS hz hk => ?_)
    have hR := hR.kept (fun a ha hlt => hk a hlt (fun z => ha.2 z))
    refine W.eq (g2 := F0 m 2305 ls [.int (mf_thrown (mf_money M (xs (i + 1))).2)]) rfl ?_
    refine lv_iload hx hb dL_law_2305 (lv_at hl 1 rfl) ?_
    refine lv_icmp_eq (tgt := 2312) hx hb dL_law_2307 (by decide) (fun _ => ?_) (fun h => absurd ht h)
    refine lv_iload hx hb dL_law_2312 (lv_at hl 1 rfl) ?_
    refine lv_if_ne (tgt := 2329) hx hb dL_law_2314 (by decide) (fun h => absurd rfl h) (fun _ => ?_)
    refine lv_aload_n hx hb dL_law_2317 rfl (lv_at hl 3 rfl) ?_
    refine lv_iconst (v := 0) hx hb dL_law_2318 (by decide) ?_
    refine xo_lald hx hb hK.1 hR dL_law_2319 ?_
    refine lv_iload hx hb dL_law_2320 (lv_at hl 0 rfl) ?_
    refine lv_i2l (v := (mf_money M (xs (i + 1))).1.toInt64) hx hb dL_law_2322 rfl ?_
    have hvv : v' 0 = (mf_money M (xs (i + 1))).1.toInt64 := by rw [hv', hr]
    refine W.eq (g2 := F0 m 2323 ls [.long ((mf_money M (xs (i + 1))).1.toInt64), .long ((mf_money M (xs (i + 1))).1.toInt64)]) (congrArg (fun z => F0 m 2323 ls [.long ((mf_money M (xs (i + 1))).1.toInt64), .long z]) hvv) ?_
    refine lv_lcmpE hx hb dL_law_2323 ?_
    refine lv_if_eq (tgt := 2329) hx hb dL_law_2324 (by decide) (fun _ => ?_) (fun h => absurd rfl h)
    refine lv_goto (tgt := 2388) hx hb dL_law_2329 (by decide) ?_
    refine W.widen (k := cells + 870) (n := slots + 3850) (by omega) (by omega) ?_
    exact kk S' (mf_money M (xs (i + 1))).2 H locs ls ⟨hCP2, ⟨g', h', v', hg0, hh', hR⟩, hM⟩ hS (lv_sub hl [2, 3, 4, 5, 6] rfl)
set_option maxHeartbeats 2000000 in
set_option maxRecDepth 100000 in
theorem lc_audit {CP : gs_T → gs_T → Prop} (hCPi : ∀ S M, CP S M → xi_ok S ∧ mi_ok M) (hc : ∀ S M (p1 : Int32), CP S M → cl_P CP ["java/lang/IndexOutOfBoundsException"] (xp_audit S p1) (mf_audit M p1).1 (mf_audit M p1).2 S) {l : Launch} {p : Program} {e : Env} {s : State} {m : MethodId} {below : List Frame} {meth : Method} {c : Code} {H : Heap} {locs : List Loc} {cells slots : Nat} {Q : State → Prop} {ls : Array Slot} {b Ln i : Nat} {xs : Nat → Int32} {E : en_T} {C : ex_C} {x0 ym o : Nat} {ad : Nat → Nat} {L : List Nat} {S M : gs_T} (hE : le_E l p s m meth c b Ln xs E C ym L) (hi : i + 8 ≤ Ln) (hW : LW CP E C s x0 ym o ad L S M H) (hS : va_S (la_9 s) s.heap H locs) (hl : lv_has ls 7 [(4, .int (nI i)), (3, .ref o), (2, .ref ym), (1, .ref x0), (0, .ref b)]) (hf : cells + 870 ≤ 1200384 ∧ slots + 3850 ≤ 5490858) (kk : ∀ (S' M' : gs_T) (H' : Heap) (locs' : List Loc) (ls' : Array Slot), LW CP E C s x0 ym o ad L S' M' H' → va_S (la_9 s) s.heap H' locs' → lv_has ls' 7 [(4, .int (nI i)), (3, .ref o), (2, .ref ym), (1, .ref x0), (0, .ref b)] → W p l e room_1 s m #[.ref b] below meth c H' locs' (cells + 870) (slots + 3850) Q (F0 m 2388 ls' [])) : W p l e room_1 s m #[.ref b] below meth c H locs cells slots Q (F0 m 2332 ls []) := by
  obtain ⟨hx, hb, hml, hown, hts, hX, hbl, hK, hN, hZ, hfl, hL9, hLn⟩ := hE
  obtain ⟨hCP, ⟨g, h, v, hg0, hh, hR⟩, hM⟩ := hW
  obtain ⟨hI, hmi⟩ := hCPi S M hCP
  subst hg0
  refine lv_aload_n hx hb dL_law_2332 rfl (lv_at hl 3 rfl) ?_
  refine lv_aload_n hx hb dL_law_2333 rfl (lv_at hl 4 rfl) ?_
  refine lv_iload hx hb dL_law_2334 (lv_at hl 0 rfl) ?_
  refine lv_iconst (v := nI 1) hx hb dL_law_2336 (by decide) ?_
  refine sc_ld hx hb hX hbl hS (show i + 1 < Ln by omega) hLn dL_law_2337 dL_law_2338 ?_
  refine lv_aload_n hx hb dL_law_2339 rfl (lv_at hl 1 rfl) ?_
  have hcl := hc S M (xs (i + 1)) hCP
  have hmz : mi_ok M := hmi
  refine ls_S (As := [.ref (g 0 0), .int (xs (i + 1)), .ref o]) (rest := []) hK hN hZ hS (fun _ h => h.1) (la_new hS.1 (mr_lt hM)) hR ⟨hI, hh⟩ (wt_audit l hfl E C (la_A s L) H.size g h S o v (xs (i + 1))) ⟨hx, hb, hml, hown, hts⟩ (vx_cwSW 3 hts (lw_SW q938 q939 q32 q940) rfl rfl rfl (by decide +kernel) ⟨Nat.le_of_ble_eq_true rfl, Nat.le_of_ble_eq_true rfl⟩) rfl hl.1 rfl (Nat.le_of_ble_eq_true rfl) dL_law_2340 ⟨(show _ ≤ 1200384 by omega), (show _ ≤ 5490858 by omega)⟩ (fun Xn ix v' H locs hxn hix hR hz hk hS => ?_) (fun r S' g' h' v' H locs hxn hg0 hh' hv' hR hz hk hS => ?_)
  · have hM := hM.kept (fun a ha hlt => hk a hlt (fun z => z.2 ha))
    obtain ⟨j, hj, ht, hCP2⟩ := hcl.1 Xn hxn
    have ej := li_ne (by decide) hix hj
    rw [← ej] at ht
    refine lv_istore (lv' := [(5, .int (nI (ix + 1))), (4, .int (nI i)), (3, .ref o), (2, .ref ym), (1, .ref (g 0 0)), (0, .ref b)]) hx hb dL_law_2343 hl (by decide) rfl (fun ls hl => ?_)
    refine lv_aload_n hx hb dL_law_2345 rfl (lv_at hl 3 rfl) ?_
    refine lv_aload_n hx hb dL_law_2346 rfl (lv_at hl 5 rfl) ?_
    refine lv_iload hx hb dL_law_2347 (lv_at hl 1 rfl) ?_
    refine lv_iconst (v := nI 1) hx hb dL_law_2349 (by decide) ?_
    refine sc_ld hx hb hX hbl hS (show i + 1 < Ln by omega) hLn dL_law_2350 dL_law_2351 ?_
    refine mr_calli (As := [.int (xs (i + 1))]) (rest := []) ⟨hx, hb, hml, hown, hts⟩ (mt_audit l E ym ad L M (xs (i + 1))) (cwV 1 hts (lw_V q1285 q1286 q1287 q41 q1288) rfl rfl rfl (by decide +kernel) ⟨Nat.le_of_ble_eq_true rfl, Nat.le_of_ble_eq_true rfl⟩) hmz hK.1 hM hL9 hS rfl hl.1 rfl (Nat.le_of_ble_eq_true rfl) dL_law_2352 ⟨(show _ ≤ 1200384 by omega), (show _ ≤ 5490858 by omega)⟩ (fun H locs hM hS hz hk => ?_)
    have hR := hR.kept (fun a ha hlt => hk a hlt (fun z => ha.2 z))
    refine W.eq (g2 := F0 m 2355 ls [.int (mf_audit M (xs (i + 1))).1]) rfl ?_
    refine lv_istore (lv' := [(6, .int (mf_audit M (xs (i + 1))).1), (5, .int (nI (ix + 1))), (4, .int (nI i)), (3, .ref o), (2, .ref ym), (1, .ref (g 0 0)), (0, .ref b)]) hx hb dL_law_2355 hl (by decide) rfl (fun ls hl => ?_)
    refine lv_aload_n hx hb dL_law_2357 rfl (lv_at hl 4 rfl) ?_
    refine mr_calli (As := []) (rest := []) ⟨hx, hb, hml, hown, hts⟩ (mt_thrown l E ym ad L (mf_audit M (xs (i + 1))).2) (cwV 0 hts (lw_V q1067 q1068 q1069 q41 q1070) rfl rfl rfl (by decide +kernel) ⟨Nat.le_of_ble_eq_true rfl, Nat.le_of_ble_eq_true rfl⟩) trivial hK.1 hM hL9 hS rfl hl.1 rfl (Nat.le_of_ble_eq_true rfl) dL_law_2358 ⟨(show _ ≤ 1200384 by omega), (show _ ≤ 5490858 by omega)⟩ (fun H locs hM hS hz hk => ?_)
    have hR := hR.kept (fun a ha hlt => hk a hlt (fun z => ha.2 z))
    refine W.eq (g2 := F0 m 2361 ls [.int (mf_thrown (mf_audit M (xs (i + 1))).2)]) rfl ?_
    refine lv_iload hx hb dL_law_2361 (lv_at hl 1 rfl) ?_
    refine lv_icmp_eq (tgt := 2368) hx hb dL_law_2363 (by decide) (fun _ => ?_) (fun h => absurd ht h)
    refine lv_iload hx hb dL_law_2368 (lv_at hl 1 rfl) ?_
    refine lv_if_ne (tgt := 2385) hx hb dL_law_2370 (by decide) (fun _ => ?_) (fun h => absurd h (li_n0 (by decide) hix))
    refine lv_goto (tgt := 2388) hx hb dL_law_2385 (by decide) ?_
    refine W.widen (k := cells + 870) (n := slots + 3850) (by omega) (by omega) ?_
    exact kk S (mf_audit M (xs (i + 1))).2 H locs ls ⟨hCP2, ⟨g, h, v', rfl, hh, hR⟩, hM⟩ hS (lv_sub hl [2, 3, 4, 5, 6] rfl)
  · have hM := hM.kept (fun a ha hlt => hk a hlt (fun z => z.2 ha))
    obtain ⟨ht, hr, hCP2⟩ := hcl.2 r S' hxn
    refine lv_istore (lv' := [(5, .int 0), (4, .int (nI i)), (3, .ref o), (2, .ref ym), (1, .ref (g 0 0)), (0, .ref b)]) hx hb dL_law_2343 hl (by decide) rfl (fun ls hl => ?_)
    refine lv_aload_n hx hb dL_law_2345 rfl (lv_at hl 3 rfl) ?_
    refine lv_aload_n hx hb dL_law_2346 rfl (lv_at hl 5 rfl) ?_
    refine lv_iload hx hb dL_law_2347 (lv_at hl 1 rfl) ?_
    refine lv_iconst (v := nI 1) hx hb dL_law_2349 (by decide) ?_
    refine sc_ld hx hb hX hbl hS (show i + 1 < Ln by omega) hLn dL_law_2350 dL_law_2351 ?_
    refine mr_calli (As := [.int (xs (i + 1))]) (rest := []) ⟨hx, hb, hml, hown, hts⟩ (mt_audit l E ym ad L M (xs (i + 1))) (cwV 1 hts (lw_V q1285 q1286 q1287 q41 q1288) rfl rfl rfl (by decide +kernel) ⟨Nat.le_of_ble_eq_true rfl, Nat.le_of_ble_eq_true rfl⟩) hmz hK.1 hM hL9 hS rfl hl.1 rfl (Nat.le_of_ble_eq_true rfl) dL_law_2352 ⟨(show _ ≤ 1200384 by omega), (show _ ≤ 5490858 by omega)⟩ (fun H locs hM hS hz hk => ?_)
    have hR := hR.kept (fun a ha hlt => hk a hlt (fun z => ha.2 z))
    refine W.eq (g2 := F0 m 2355 ls [.int (mf_audit M (xs (i + 1))).1]) rfl ?_
    refine lv_istore (lv' := [(6, .int (mf_audit M (xs (i + 1))).1), (5, .int 0), (4, .int (nI i)), (3, .ref o), (2, .ref ym), (1, .ref (g 0 0)), (0, .ref b)]) hx hb dL_law_2355 hl (by decide) rfl (fun ls hl => ?_)
    refine lv_aload_n hx hb dL_law_2357 rfl (lv_at hl 4 rfl) ?_
    refine mr_calli (As := []) (rest := []) ⟨hx, hb, hml, hown, hts⟩ (mt_thrown l E ym ad L (mf_audit M (xs (i + 1))).2) (cwV 0 hts (lw_V q1067 q1068 q1069 q41 q1070) rfl rfl rfl (by decide +kernel) ⟨Nat.le_of_ble_eq_true rfl, Nat.le_of_ble_eq_true rfl⟩) trivial hK.1 hM hL9 hS rfl hl.1 rfl (Nat.le_of_ble_eq_true rfl) dL_law_2358 ⟨(show _ ≤ 1200384 by omega), (show _ ≤ 5490858 by omega)⟩ (fun H locs hM hS hz hk => ?_)
    have hR := hR.kept (fun a ha hlt => hk a hlt (fun z => ha.2 z))
    refine W.eq (g2 := F0 m 2361 ls [.int (mf_thrown (mf_audit M (xs (i + 1))).2)]) rfl ?_
    refine lv_iload hx hb dL_law_2361 (lv_at hl 1 rfl) ?_
    refine lv_icmp_eq (tgt := 2368) hx hb dL_law_2363 (by decide) (fun _ => ?_) (fun h => absurd ht h)
    refine lv_iload hx hb dL_law_2368 (lv_at hl 1 rfl) ?_
    refine lv_if_ne (tgt := 2385) hx hb dL_law_2370 (by decide) (fun h => absurd rfl h) (fun _ => ?_)
    refine lv_aload_n hx hb dL_law_2373 rfl (lv_at hl 3 rfl) ?_
    refine lv_iconst (v := 0) hx hb dL_law_2374 (by decide) ?_
    refine xo_lald hx hb hK.1 hR dL_law_2375 ?_
    refine lv_iload hx hb dL_law_2376 (lv_at hl 0 rfl) ?_
    refine lv_i2l (v := (mf_audit M (xs (i + 1))).1.toInt64) hx hb dL_law_2378 rfl ?_
    have hvv : v' 0 = (mf_audit M (xs (i + 1))).1.toInt64 := by rw [hv', hr]
    refine W.eq (g2 := F0 m 2379 ls [.long ((mf_audit M (xs (i + 1))).1.toInt64), .long ((mf_audit M (xs (i + 1))).1.toInt64)]) (congrArg (fun z => F0 m 2379 ls [.long ((mf_audit M (xs (i + 1))).1.toInt64), .long z]) hvv) ?_
    refine lv_lcmpE hx hb dL_law_2379 ?_
    refine lv_if_eq (tgt := 2385) hx hb dL_law_2380 (by decide) (fun _ => ?_) (fun h => absurd rfl h)
    refine lv_goto (tgt := 2388) hx hb dL_law_2385 (by decide) ?_
    refine W.widen (k := cells + 870) (n := slots + 3850) (by omega) (by omega) ?_
    exact kk S' (mf_audit M (xs (i + 1))).2 H locs ls ⟨hCP2, ⟨g', h', v', hg0, hh', hR⟩, hM⟩ hS (lv_sub hl [2, 3, 4, 5, 6] rfl)
