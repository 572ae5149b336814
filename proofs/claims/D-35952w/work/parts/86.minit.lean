def mS (i : Nat) : gs_T := fun k => if k = 4 then fl (fun _ => 0) i 60 else if k = 7 then upd (fun _ => 0) 0 50 else fun _ => 0
theorem mS_0 : gs_up (fun _ _ => 0) 7 0 50 = mS 0 := by
  funext k
  unfold mS
  by_cases c : k = 4
  · subst c
    rw [if_pos rfl, fl_0, gs_up_row (by decide)]
  · rw [if_neg c]
    by_cases d : k = 7
    · subst d
      rw [if_pos rfl, gs_up_at]
    · rw [if_neg d, gs_up_row d]
theorem mS_4 {i : Nat} : mS i 4 = fl (fun _ => 0) i 60 := if_pos rfl
theorem mS_n {i j k : Nat} (h : k ≠ 4) : mS i k = mS j k := by
  unfold mS
  rw [if_neg h, if_neg h]
theorem mS_fs {g : kw_A} {i j n : Nat} : mk_fs g (mS i) n = mk_fs g (mS j) n := by
  simp only [mk_fs]
  apply List.map_congr_left
  intro k _
  by_cases a : mr_arr k = true
  · rw [if_pos a, if_pos a]
  · rw [if_neg a, if_neg a]
    by_cases c : k = 4
    · subst c
      exact absurd rfl a
    · rw [mS_n c]
set_option maxHeartbeats 4000000 in
set_option maxRecDepth 100000 in
theorem mt_init (l : Launch) (E : en_T) (C : ex_C) (A : Nat → Prop) (sz : Nat) (g : kw_A) (x0 : Nat) : Met l yX2_init (ws_ yX2_init cX2_init 2 none) { frames := 1, cells := 30, slots := 1372, locals := 32 } (cpc E C A sz [.ref x0] (kw E (okM 2) g (enM E g (fun _ _ => 0) 2) A) (g 0 0 = x0)) (cq_Q none (fun H => ∃ g' : kw_A, g' 0 0 = x0 ∧ kw E (okM 38) g' (enM E g' (mS 8) 38) A H) A) 30 1372 A := by
  refine cq_start (by decide) (Nat.le_of_ble_eq_true rfl) ?_
  intro p e s m below meth c ls hx hb hr hlocks hml hown hnm hts hsz hK hZ hA hR hg hl
  subst hsz
  have hl : lv_has ls 2 [(0, .ref x0)] := hl
  have hS : va_S A s.heap s.heap [] := va_S.rf
  refine lv_aload_n hx hb dX2_init_0 rfl (lv_at hl 0 rfl) ?_
  refine W.objInit hx hb hown (hts _ q950) (hts _ q66) (hts _ q67) rfl (by rw [hml]; exact hl.1) rfl dX2_init_1 (Nat.le_of_ble_eq_true rfl) (Nat.le_of_ble_eq_true rfl) ?_
  refine W.eq (g2 := F0 m 4 ls []) rfl ?_
  refine lv_aload_n hx hb dX2_init_4 rfl (lv_at hl 0 rfl) ?_
  refine lv_bipush (v := 24) hx hb dX2_init_5 (by decide) ?_
  refine mk_step hx hb hts hown hnm hK.1 hS hA hg 2 3 hR (by decide) rfl (by decide) rfl (by decide) rfl (by decide) (Nat.le_of_ble_eq_true rfl) (Nat.le_of_ble_eq_true rfl) dX2_init_7 (hts _ q953) dX2_init_9 (fun g H locs hg hR hS => ?_)
  refine W.eq (g2 := F0 m 12 ls []) rfl ?_
  refine lv_aload_n hx hb dX2_init_12 rfl (lv_at hl 0 rfl) ?_
  refine lv_bipush (v := 8) hx hb dX2_init_13 (by decide) ?_
  refine mk_step hx hb hts hown hnm hK.1 hS hA hg 3 4 hR (by decide) rfl (by decide) rfl (by decide) rfl (by decide) (Nat.le_of_ble_eq_true rfl) (Nat.le_of_ble_eq_true rfl) dX2_init_15 (hts _ q954) dX2_init_17 (fun g H locs hg hR hS => ?_)
  refine W.eq (g2 := F0 m 20 ls []) rfl ?_
  refine lv_aload_n hx hb dX2_init_20 rfl (lv_at hl 0 rfl) ?_
  refine lv_bipush (v := 8) hx hb dX2_init_21 (by decide) ?_
  refine mk_step hx hb hts hown hnm hK.1 hS hA hg 4 5 hR (by decide) rfl (by decide) rfl (by decide) rfl (by decide) (Nat.le_of_ble_eq_true rfl) (Nat.le_of_ble_eq_true rfl) dX2_init_23 (hts _ q955) dX2_init_25 (fun g H locs hg hR hS => ?_)
  refine W.eq (g2 := F0 m 28 ls []) rfl ?_
  refine lv_aload_n hx hb dX2_init_28 rfl (lv_at hl 0 rfl) ?_
  refine lv_bipush (v := 8) hx hb dX2_init_29 (by decide) ?_
  refine mk_step hx hb hts hown hnm hK.1 hS hA hg 5 6 hR (by decide) rfl (by decide) rfl (by decide) rfl (by decide) (Nat.le_of_ble_eq_true rfl) (Nat.le_of_ble_eq_true rfl) dX2_init_31 (hts _ q956) dX2_init_33 (fun g H locs hg hR hS => ?_)
  refine W.eq (g2 := F0 m 36 ls []) rfl ?_
  refine lv_aload_n hx hb dX2_init_36 rfl (lv_at hl 0 rfl) ?_
  refine lv_iconst (v := 4) hx hb dX2_init_37 (by decide) ?_
  refine mk_step hx hb hts hown hnm hK.1 hS hA hg 6 9 hR (by decide) rfl (by decide) rfl (by decide) rfl (by decide) (Nat.le_of_ble_eq_true rfl) (Nat.le_of_ble_eq_true rfl) dX2_init_38 (hts _ q957) dX2_init_40 (fun g H locs hg hR hS => ?_)
  refine W.eq (g2 := F0 m 43 ls []) rfl ?_
  refine lv_aload_n hx hb dX2_init_43 rfl (lv_at hl 0 rfl) ?_
  refine lv_bipush (v := 50) hx hb dX2_init_44 (by decide) ?_
  refine W.eq (g2 := F0 m 46 ls [.int 50, .ref (g 0 0)]) (congrArg (fun a => F0 m 46 ls [.int 50, .ref a]) hg.symm) ?_
  refine kw_put (v := .int 50) (C := RX2) (T := TX2) (N := 38) hx hb hts in_X2 tyX2 tyX2_ok nmX2 hown hK.1 hR hS 0 0 (Or.inl ⟨rfl, rfl⟩) (show enM E g (fun _ _ => 0) 9 0 0 = .inr (1, mk_fs g (fun _ _ => 0) 9) from rfl) rfl 7 (by decide) (hts _ q958) (fun _ h => h) (Or.inl (mr_tab 7 (by decide) rfl).1) (mr_tab 7 (by decide) rfl).2 rfl rfl (by rw [mk_len]; decide) dX2_init_46 (enM E g (mS 0) 9) ?_ ?_ (fun H locs hR hS => ?_)
  · show (Sum.inr (1, mk_fs g (mS 0) 9) : va_E) = _
    rw [mk_puti g _ (by decide) rfl, mS_0]
  · intro u j ho hne
    rcases ho with h | ⟨rfl, h1, h2⟩
    · exact absurd h hne
    · show (Sum.inl (if j = 19 then E.2.2.1 else E.2.1, (mr_len j, .inl (mS 0 j))) : va_E) = .inl (if j = 19 then E.2.2.1 else E.2.1, (mr_len j, .inl (fun _ => 0)))
      have e4 : mS 0 j = fun _ => 0 := by
        unfold mS
        by_cases c : j = 4
        · rw [if_pos c, fl_0]
        · rw [if_neg c, if_neg (fun z => by subst z; cases h2)]
      rw [e4]
  refine W.eq (g2 := F0 m 49 ls []) rfl ?_
  refine lv_aload_n hx hb dX2_init_49 rfl (lv_at hl 0 rfl) ?_
  refine lv_bipush (v := 30) hx hb dX2_init_50 (by decide) ?_
  refine mk_step hx hb hts hown hnm hK.1 hS hA hg 9 10 hR (by decide) rfl (by decide) rfl (by decide) rfl (by decide) (Nat.le_of_ble_eq_true rfl) (Nat.le_of_ble_eq_true rfl) dX2_init_52 (hts _ q960) dX2_init_54 (fun g H locs hg hR hS => ?_)
  refine W.eq (g2 := F0 m 57 ls []) rfl ?_
  refine lv_aload_n hx hb dX2_init_57 rfl (lv_at hl 0 rfl) ?_
  refine lv_bipush (v := 30) hx hb dX2_init_58 (by decide) ?_
  refine mk_step hx hb hts hown hnm hK.1 hS hA hg 10 11 hR (by decide) rfl (by decide) rfl (by decide) rfl (by decide) (Nat.le_of_ble_eq_true rfl) (Nat.le_of_ble_eq_true rfl) dX2_init_60 (hts _ q961) dX2_init_62 (fun g H locs hg hR hS => ?_)
  refine W.eq (g2 := F0 m 65 ls []) rfl ?_
  refine lv_aload_n hx hb dX2_init_65 rfl (lv_at hl 0 rfl) ?_
  refine lv_bipush (v := 30) hx hb dX2_init_66 (by decide) ?_
  refine mk_step hx hb hts hown hnm hK.1 hS hA hg 11 12 hR (by decide) rfl (by decide) rfl (by decide) rfl (by decide) (Nat.le_of_ble_eq_true rfl) (Nat.le_of_ble_eq_true rfl) dX2_init_68 (hts _ q962) dX2_init_70 (fun g H locs hg hR hS => ?_)
  refine W.eq (g2 := F0 m 73 ls []) rfl ?_
  refine lv_aload_n hx hb dX2_init_73 rfl (lv_at hl 0 rfl) ?_
  refine lv_bipush (v := 30) hx hb dX2_init_74 (by decide) ?_
  refine mk_step hx hb hts hown hnm hK.1 hS hA hg 12 13 hR (by decide) rfl (by decide) rfl (by decide) rfl (by decide) (Nat.le_of_ble_eq_true rfl) (Nat.le_of_ble_eq_true rfl) dX2_init_76 (hts _ q963) dX2_init_78 (fun g H locs hg hR hS => ?_)
  refine W.eq (g2 := F0 m 81 ls []) rfl ?_
  refine lv_aload_n hx hb dX2_init_81 rfl (lv_at hl 0 rfl) ?_
  refine lv_bipush (v := 30) hx hb dX2_init_82 (by decide) ?_
  refine mk_step hx hb hts hown hnm hK.1 hS hA hg 13 14 hR (by decide) rfl (by decide) rfl (by decide) rfl (by decide) (Nat.le_of_ble_eq_true rfl) (Nat.le_of_ble_eq_true rfl) dX2_init_84 (hts _ q964) dX2_init_86 (fun g H locs hg hR hS => ?_)
  refine W.eq (g2 := F0 m 89 ls []) rfl ?_
  refine lv_aload_n hx hb dX2_init_89 rfl (lv_at hl 0 rfl) ?_
  refine lv_bipush (v := 30) hx hb dX2_init_90 (by decide) ?_
  refine mk_step hx hb hts hown hnm hK.1 hS hA hg 14 15 hR (by decide) rfl (by decide) rfl (by decide) rfl (by decide) (Nat.le_of_ble_eq_true rfl) (Nat.le_of_ble_eq_true rfl) dX2_init_92 (hts _ q965) dX2_init_94 (fun g H locs hg hR hS => ?_)
  refine W.eq (g2 := F0 m 97 ls []) rfl ?_
  refine lv_aload_n hx hb dX2_init_97 rfl (lv_at hl 0 rfl) ?_
  refine lv_bipush (v := 30) hx hb dX2_init_98 (by decide) ?_
  refine mk_step hx hb hts hown hnm hK.1 hS hA hg 15 16 hR (by decide) rfl (by decide) rfl (by decide) rfl (by decide) (Nat.le_of_ble_eq_true rfl) (Nat.le_of_ble_eq_true rfl) dX2_init_100 (hts _ q966) dX2_init_102 (fun g H locs hg hR hS => ?_)
  refine W.eq (g2 := F0 m 105 ls []) rfl ?_
  refine lv_aload_n hx hb dX2_init_105 rfl (lv_at hl 0 rfl) ?_
  refine lv_bipush (v := 30) hx hb dX2_init_106 (by decide) ?_
  refine mk_step hx hb hts hown hnm hK.1 hS hA hg 16 17 hR (by decide) rfl (by decide) rfl (by decide) rfl (by decide) (Nat.le_of_ble_eq_true rfl) (Nat.le_of_ble_eq_true rfl) dX2_init_108 (hts _ q967) dX2_init_110 (fun g H locs hg hR hS => ?_)
  refine W.eq (g2 := F0 m 113 ls []) rfl ?_
  refine lv_aload_n hx hb dX2_init_113 rfl (lv_at hl 0 rfl) ?_
  refine lv_bipush (v := 30) hx hb dX2_init_114 (by decide) ?_
  refine mk_step hx hb hts hown hnm hK.1 hS hA hg 17 18 hR (by decide) rfl (by decide) rfl (by decide) rfl (by decide) (Nat.le_of_ble_eq_true rfl) (Nat.le_of_ble_eq_true rfl) dX2_init_116 (hts _ q968) dX2_init_118 (fun g H locs hg hR hS => ?_)
  refine W.eq (g2 := F0 m 121 ls []) rfl ?_
  refine lv_aload_n hx hb dX2_init_121 rfl (lv_at hl 0 rfl) ?_
  refine lv_bipush (v := 30) hx hb dX2_init_122 (by decide) ?_
  refine mk_step hx hb hts hown hnm hK.1 hS hA hg 18 19 hR (by decide) rfl (by decide) rfl (by decide) rfl (by decide) (Nat.le_of_ble_eq_true rfl) (Nat.le_of_ble_eq_true rfl) dX2_init_124 (hts _ q969) dX2_init_126 (fun g H locs hg hR hS => ?_)
  refine W.eq (g2 := F0 m 129 ls []) rfl ?_
  refine lv_aload_n hx hb dX2_init_129 rfl (lv_at hl 0 rfl) ?_
  refine lv_bipush (v := 30) hx hb dX2_init_130 (by decide) ?_
  refine mk_step hx hb hts hown hnm hK.1 hS hA hg 19 20 hR (by decide) rfl (by decide) rfl (by decide) rfl (by decide) (Nat.le_of_ble_eq_true rfl) (Nat.le_of_ble_eq_true rfl) dX2_init_132 (hts _ q970) dX2_init_134 (fun g H locs hg hR hS => ?_)
  refine W.eq (g2 := F0 m 137 ls []) rfl ?_
  refine lv_aload_n hx hb dX2_init_137 rfl (lv_at hl 0 rfl) ?_
  refine lv_bipush (v := 30) hx hb dX2_init_138 (by decide) ?_
  refine mk_step hx hb hts hown hnm hK.1 hS hA hg 20 21 hR (by decide) rfl (by decide) rfl (by decide) rfl (by decide) (Nat.le_of_ble_eq_true rfl) (Nat.le_of_ble_eq_true rfl) dX2_init_140 (hts _ q971) dX2_init_142 (fun g H locs hg hR hS => ?_)
  refine W.eq (g2 := F0 m 145 ls []) rfl ?_
  refine lv_aload_n hx hb dX2_init_145 rfl (lv_at hl 0 rfl) ?_
  refine lv_bipush (v := 30) hx hb dX2_init_146 (by decide) ?_
  refine mk_step hx hb hts hown hnm hK.1 hS hA hg 21 22 hR (by decide) rfl (by decide) rfl (by decide) rfl (by decide) (Nat.le_of_ble_eq_true rfl) (Nat.le_of_ble_eq_true rfl) dX2_init_148 (hts _ q972) dX2_init_150 (fun g H locs hg hR hS => ?_)
  refine W.eq (g2 := F0 m 153 ls []) rfl ?_
  refine lv_aload_n hx hb dX2_init_153 rfl (lv_at hl 0 rfl) ?_
  refine lv_bipush (v := 30) hx hb dX2_init_154 (by decide) ?_
  refine mk_step hx hb hts hown hnm hK.1 hS hA hg 22 23 hR (by decide) rfl (by decide) rfl (by decide) rfl (by decide) (Nat.le_of_ble_eq_true rfl) (Nat.le_of_ble_eq_true rfl) dX2_init_156 (hts _ q973) dX2_init_158 (fun g H locs hg hR hS => ?_)
  refine W.eq (g2 := F0 m 161 ls []) rfl ?_
  refine lv_aload_n hx hb dX2_init_161 rfl (lv_at hl 0 rfl) ?_
  refine lv_sipush (v := 360) hx hb dX2_init_162 (by decide) ?_
  refine mk_step hx hb hts hown hnm hK.1 hS hA hg 23 24 hR (by decide) rfl (by decide) rfl (by decide) rfl (by decide) (Nat.le_of_ble_eq_true rfl) (Nat.le_of_ble_eq_true rfl) dX2_init_165 (hts _ q974) dX2_init_167 (fun g H locs hg hR hS => ?_)
  refine W.eq (g2 := F0 m 170 ls []) rfl ?_
  refine lv_aload_n hx hb dX2_init_170 rfl (lv_at hl 0 rfl) ?_
  refine lv_sipush (v := 360) hx hb dX2_init_171 (by decide) ?_
  refine mk_step hx hb hts hown hnm hK.1 hS hA hg 24 26 hR (by decide) rfl (by decide) rfl (by decide) rfl (by decide) (Nat.le_of_ble_eq_true rfl) (Nat.le_of_ble_eq_true rfl) dX2_init_174 (hts _ q975) dX2_init_176 (fun g H locs hg hR hS => ?_)
  refine W.eq (g2 := F0 m 179 ls []) rfl ?_
  refine lv_aload_n hx hb dX2_init_179 rfl (lv_at hl 0 rfl) ?_
  refine lv_bipush (v := 20) hx hb dX2_init_180 (by decide) ?_
  refine mk_step hx hb hts hown hnm hK.1 hS hA hg 26 27 hR (by decide) rfl (by decide) rfl (by decide) rfl (by decide) (Nat.le_of_ble_eq_true rfl) (Nat.le_of_ble_eq_true rfl) dX2_init_182 (hts _ q977) dX2_init_184 (fun g H locs hg hR hS => ?_)
  refine W.eq (g2 := F0 m 187 ls []) rfl ?_
  refine lv_aload_n hx hb dX2_init_187 rfl (lv_at hl 0 rfl) ?_
  refine lv_bipush (v := 20) hx hb dX2_init_188 (by decide) ?_
  refine mk_step hx hb hts hown hnm hK.1 hS hA hg 27 28 hR (by decide) rfl (by decide) rfl (by decide) rfl (by decide) (Nat.le_of_ble_eq_true rfl) (Nat.le_of_ble_eq_true rfl) dX2_init_190 (hts _ q978) dX2_init_192 (fun g H locs hg hR hS => ?_)
  refine W.eq (g2 := F0 m 195 ls []) rfl ?_
  refine lv_aload_n hx hb dX2_init_195 rfl (lv_at hl 0 rfl) ?_
  refine lv_bipush (v := 20) hx hb dX2_init_196 (by decide) ?_
  refine mk_step hx hb hts hown hnm hK.1 hS hA hg 28 29 hR (by decide) rfl (by decide) rfl (by decide) rfl (by decide) (Nat.le_of_ble_eq_true rfl) (Nat.le_of_ble_eq_true rfl) dX2_init_198 (hts _ q979) dX2_init_200 (fun g H locs hg hR hS => ?_)
  refine W.eq (g2 := F0 m 203 ls []) rfl ?_
  refine lv_aload_n hx hb dX2_init_203 rfl (lv_at hl 0 rfl) ?_
  refine lv_bipush (v := 20) hx hb dX2_init_204 (by decide) ?_
  refine mk_step hx hb hts hown hnm hK.1 hS hA hg 29 30 hR (by decide) rfl (by decide) rfl (by decide) rfl (by decide) (Nat.le_of_ble_eq_true rfl) (Nat.le_of_ble_eq_true rfl) dX2_init_206 (hts _ q980) dX2_init_208 (fun g H locs hg hR hS => ?_)
  refine W.eq (g2 := F0 m 211 ls []) rfl ?_
  refine lv_aload_n hx hb dX2_init_211 rfl (lv_at hl 0 rfl) ?_
  refine lv_bipush (v := 20) hx hb dX2_init_212 (by decide) ?_
  refine mk_step hx hb hts hown hnm hK.1 hS hA hg 30 31 hR (by decide) rfl (by decide) rfl (by decide) rfl (by decide) (Nat.le_of_ble_eq_true rfl) (Nat.le_of_ble_eq_true rfl) dX2_init_214 (hts _ q981) dX2_init_216 (fun g H locs hg hR hS => ?_)
  refine W.eq (g2 := F0 m 219 ls []) rfl ?_
  refine lv_aload_n hx hb dX2_init_219 rfl (lv_at hl 0 rfl) ?_
  refine lv_bipush (v := 20) hx hb dX2_init_220 (by decide) ?_
  refine mk_step hx hb hts hown hnm hK.1 hS hA hg 31 32 hR (by decide) rfl (by decide) rfl (by decide) rfl (by decide) (Nat.le_of_ble_eq_true rfl) (Nat.le_of_ble_eq_true rfl) dX2_init_222 (hts _ q982) dX2_init_224 (fun g H locs hg hR hS => ?_)
  refine W.eq (g2 := F0 m 227 ls []) rfl ?_
  refine lv_aload_n hx hb dX2_init_227 rfl (lv_at hl 0 rfl) ?_
  refine lv_bipush (v := 20) hx hb dX2_init_228 (by decide) ?_
  refine mk_step hx hb hts hown hnm hK.1 hS hA hg 32 33 hR (by decide) rfl (by decide) rfl (by decide) rfl (by decide) (Nat.le_of_ble_eq_true rfl) (Nat.le_of_ble_eq_true rfl) dX2_init_230 (hts _ q983) dX2_init_232 (fun g H locs hg hR hS => ?_)
  refine W.eq (g2 := F0 m 235 ls []) rfl ?_
  refine lv_aload_n hx hb dX2_init_235 rfl (lv_at hl 0 rfl) ?_
  refine lv_bipush (v := 20) hx hb dX2_init_236 (by decide) ?_
  refine mk_step hx hb hts hown hnm hK.1 hS hA hg 33 34 hR (by decide) rfl (by decide) rfl (by decide) rfl (by decide) (Nat.le_of_ble_eq_true rfl) (Nat.le_of_ble_eq_true rfl) dX2_init_238 (hts _ q984) dX2_init_240 (fun g H locs hg hR hS => ?_)
  refine W.eq (g2 := F0 m 243 ls []) rfl ?_
  refine lv_aload_n hx hb dX2_init_243 rfl (lv_at hl 0 rfl) ?_
  refine lv_bipush (v := 20) hx hb dX2_init_244 (by decide) ?_
  refine mk_step hx hb hts hown hnm hK.1 hS hA hg 34 38 hR (by decide) rfl (by decide) rfl (by decide) rfl (by decide) (Nat.le_of_ble_eq_true rfl) (Nat.le_of_ble_eq_true rfl) dX2_init_246 (hts _ q985) dX2_init_248 (fun g H locs hg hR hS => ?_)
  refine W.eq (g2 := F0 m 251 ls []) rfl ?_
  refine lv_iconst (v := 0) hx hb dX2_init_251 (by decide) ?_
  refine lv_istore_n (lv' := [(1, .int 0), (0, .ref x0)]) hx hb dX2_init_252 rfl hl (by decide) rfl (fun ls hl => ?_)
  have hL : ∀ (k i : Nat) (H : Heap) (locs : List Loc) (ls : Array Slot), i + k = 8 → kw E (okM 38) g (enM E g (mS i) 38) A H → va_S A s.heap H locs → lv_has ls 2 [(1, .int (nI i)), (0, .ref x0)] → cq_G p l e { frames := 1, cells := 30, slots := 1372, locals := 32 } s m [.ref x0] below meth c A (cq_Q none (fun H => ∃ g' : kw_A, g' 0 0 = x0 ∧ kw E (okM 38) g' (enM E g' (mS 8) 38) A H) A) 30 1372 H locs 30 1372 (F0 m 253 ls []) := by
    intro k
    induction k with
    | zero =>
      intro i H locs ls hi hR hS hl
      have hi : i = 8 := hi
      subst hi
      refine lv_iload_n hx hb dX2_init_253 rfl (lv_at hl 0 rfl) ?_
      refine lv_bipush (v := 8) hx hb dX2_init_254 (by decide) ?_
      refine lv_icmp_ge (tgt := 273) hx hb dX2_init_256 (by decide) (fun _ => ?_) (fun h => absurd (by decide) h)
      exact W.vret hx hb hr (fun t ht hW => ⟨⟨rfl, g, hg, by rw [ht]; exact hR⟩, hS.F ht⟩) hS.2.2 dX2_init_273
    | succ k ih =>
      intro i H locs ls hi hR hS hl
      refine lv_iload_n hx hb dX2_init_253 rfl (lv_at hl 0 rfl) ?_
      refine lv_bipush (v := 8) hx hb dX2_init_254 (by decide) ?_
      refine lv_icmp_ge (tgt := 273) hx hb dX2_init_256 (by decide) (fun h => absurd h (nI_ge (b := 8) (by omega) (by decide))) (fun _ => ?_)
      refine lv_aload_n hx hb dX2_init_259 rfl (lv_at hl 1 rfl) ?_
      refine W.eq (g2 := F0 m 260 ls [.ref (g 0 0)]) (congrArg (fun a => F0 m 260 ls [.ref a]) hg.symm) ?_
      refine kw_get (C := RX2) (T := TX2) (N := 38) (v := .ref (g 6 4)) hx hb hts in_X2 hown hK.1 hR 0 0 (Or.inl ⟨rfl, rfl⟩) (show enM E g (mS i) 38 0 0 = .inr (1, mk_fs g (mS i) 38) from rfl) rfl 4 (by decide) (hts _ q955) (fun _ h9 => h9) (by rw [mk_at _ _ _ (by decide)]; rfl) dX2_init_260 ?_
      refine lv_iload_n hx hb dX2_init_263 rfl (lv_at hl 0 rfl) ?_
      refine lv_bipush (v := 60) hx hb dX2_init_264 (by decide) ?_
      refine kw_iast (n := 8) hx hb hK.1 hR hS 6 4 (Or.inr ⟨rfl, by decide, rfl⟩) (show enM E g (mS i) 38 6 4 = .inl (E.2.1, 8, .inl (fl (fun _ => 0) i 60)) from rfl) (vp_in_nI (by omega) (by omega)) dX2_init_266 (enM E g (mS (i + 1)) 38) ?_ ?_ (fun H locs hR hS => ?_)
      · rw [nI_clamp (by omega), fl_s]
        rfl
      · intro u j ho hne
        rcases ho with ⟨rfl, rfl⟩ | ⟨rfl, h1, h2⟩
        · show (Sum.inr (1, mk_fs g (mS (i + 1)) 38) : va_E) = .inr (1, mk_fs g (mS i) 38)
          rw [mS_fs]
        · show (Sum.inl (if j = 19 then E.2.2.1 else E.2.1, (mr_len j, .inl (mS (i + 1) j))) : va_E) = .inl (if j = 19 then E.2.2.1 else E.2.1, (mr_len j, .inl (mS i j)))
          rw [mS_n (fun z => hne ⟨rfl, z⟩)]
      refine lv_iinc (v := nI (i + 1)) (lv' := [(1, .int (nI (i + 1))), (0, .ref x0)]) hx hb dX2_init_267 hl (k := 0) rfl (nI_1 i) (by decide) rfl (fun ls hl => ?_)
      refine lv_goto (tgt := 253) hx hb dX2_init_270 (by decide) ?_
      exact ih (i + 1) H locs ls (by omega) hR hS hl
  exact hL 8 0 _ _ ls rfl hR hS hl
