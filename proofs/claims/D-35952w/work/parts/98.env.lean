/-! what holds at the law's start: the environment -/
theorem env_F {s : State} {args : Array Value} (hts : ∀ w ∈ lw_tbl, w.before args s = true) : ∀ (k : Nat) (t : String × MethodName × MethodName), ex_fw[k]? = some t → va_Fw t.1 t.2.1 t.2.2 s := by
  intro k t h
  match k, h with
  | 0, h => cases h; exact va_Fw.of (hts _ q104) (hts _ q103) (hts _ q109) (hts _ q107) (hts _ q105)
  | 1, h => cases h; exact va_Fw.of (hts _ q371) (hts _ q370) (hts _ q375) (hts _ q373) (hts _ q105)
  | 2, h => cases h; exact va_Fw.of (hts _ q391) (hts _ q390) (hts _ q395) (hts _ q393) (hts _ q105)
  | 3, h => cases h; exact va_Fw.of (hts _ q420) (hts _ q419) (hts _ q424) (hts _ q422) (hts _ q105)
  | 4, h => cases h; exact va_Fw.of (hts _ q613) (hts _ q612) (hts _ q617) (hts _ q615) (hts _ q105)
  | 5, h => cases h; exact va_Fw.of (hts _ q677) (hts _ q676) (hts _ q681) (hts _ q679) (hts _ q105)
  | 6, h => cases h; exact va_Fw.of (hts _ q641) (hts _ q640) (hts _ q646) (hts _ q644) (hts _ q642)
  | 7, h => cases h; exact va_Fw.of (hts _ q651) (hts _ q650) (hts _ q655) (hts _ q653) (hts _ q642)
  | k + 8, h => cases h
theorem env_N {s : State} {args : Array Value} (hts : ∀ w ∈ lw_tbl, w.before args s = true) : ex_N s := by
  intro w hw hk
  have h := hts w hw
  cases w <;> first | (simp [ex_wk] at hk; done) | exact va_Nw.of rfl h
theorem env_A {s : State} {args : Array Value} {ty : FieldType} (h : (Cond.arrayClass ty).before args s = true) : ∃ cA : ClassId, ArrOfT s cA ty ∧ s.vm.findClass ("[" ++ ty.toString) = some cA := by
  obtain ⟨cA, kA, comp, h1, h2, h3⟩ := Cond.arrayClass_spec h
  exact ⟨cA, fun N z => ⟨fun k h => (by cases h), kA, h2, comp, h3⟩, h1⟩
set_option maxHeartbeats 2000000 in
theorem law_env {s : State} {args : Array Value} (hts : ∀ w ∈ lw_tbl, w.before args s = true) (hgv : (Jvm.Cond.and given_1 narrow_1).before args s = true) : ∃ (E : en_T) (C : ex_C), ex_K E C s ∧ nc_K s ∧ ex_H C (la_9 s) s s.heap := by
  have hs := flat_of_before _ hgv
  have hA : ∀ a : Nat, a < s.heap.size → ¬ la_9 s a := fun a h1 h2 => absurd h1 (Nat.not_lt.mpr h2)
  obtain ⟨c0, i0, h0⟩ := u_known (C := RX1) (T := TX1) (N := 12) (n := 12) hts (fun w h => lw_all_tbl (in_X1 w h)) (hts _ (lw_all_tbl q61))
  obtain ⟨c1, i1, h1⟩ := u_known (C := RX2) (T := TX2) (N := 38) (n := 38) hts (fun w h => lw_all_tbl (in_X2 w h)) (hts _ (lw_all_tbl q946))
  obtain ⟨c2, i2, h2⟩ := u_known (C := RX3) (T := TX3) (N := 15) (n := 15) hts (fun w h => lw_all_tbl (in_X3 w h)) (hts _ (lw_all_tbl q497))
  obtain ⟨c3, i3, h3⟩ := u_known (C := RX4) (T := TX4) (N := 2) (n := 2) hts (fun w h => lw_all_tbl (in_X4 w h)) (hts _ (lw_all_tbl q505))
  obtain ⟨c4, i4, h4⟩ := u_known (C := RX5) (T := TX5) (N := 10) (n := 10) hts (fun w h => lw_all_tbl (in_X5 w h)) (hts _ (lw_all_tbl q707))
  obtain ⟨c5, i5, h5⟩ := u_known (C := RJ2) (T := TJ2) (N := 3) (n := 3) hts (fun w h => lw_all_tbl (in_J2 w h)) (hts _ (lw_all_tbl q69))
  obtain ⟨c6, i6, h6⟩ := u_known (C := RJ19) (T := TJ19) (N := 4) (n := 4) hts (fun w h => lw_all_tbl (in_J19 w h)) (hts _ (lw_all_tbl q620))
  obtain ⟨c7, i7, h7⟩ := u_known (C := RJ16) (T := TJ16) (N := 1) (n := 1) hts (fun w h => lw_all_tbl (in_J16 w h)) (hts _ (lw_all_tbl q405))
  obtain ⟨aI, hI1, hI2⟩ := env_A (hts _ (lw_all_tbl q97))
  obtain ⟨aZ, hZ1, hZ2⟩ := env_A (hts _ (lw_all_tbl q1066))
  obtain ⟨aJ, hJ1, hJ2⟩ := env_A (hts _ (lw_all_tbl q1289))
  obtain ⟨comp, aO, kO, hO1, hO2, hO3, hO4, hO5⟩ := Cond.arrayOver_spec (hts _ q156)
  obtain ⟨mo, hmo⟩ := va_Mi.of (hs (Cond.isRef (.mirror "[Ljava/lang/Object;")) (by decide +kernel))
  obtain ⟨e0, he0, hT0⟩ := va_Tof (f := fun _ => .null) (N := 0) (A := la_9 s) (by decide) (hs (Cond.arrayOf (.static "java/util/ArrayList" "DEFAULTCAPACITY_EMPTY_ELEMENTDATA" "[Ljava/lang/Object;") (.object "java/lang/Object")) (by decide +kernel)) (va_eqt (hs (Cond.eq (.length (.static "java/util/ArrayList" "DEFAULTCAPACITY_EMPTY_ELEMENTDATA" "[Ljava/lang/Object;")) (.int 0)) (by decide +kernel))) (fun j hj => absurd hj (Nat.not_lt_zero j)) hA
  have hlen := va_eqt (hs (Cond.eq (.length (.static "java/lang/Integer$IntegerCache" "cache" "[Ljava/lang/Integer;")) (.int 256)) (by decide +kernel))
  obtain ⟨ic, hic, hel⟩ := vb_Cof (A := la_9 s) (st := .static "java/lang/Integer$IntegerCache" "cache" "[Ljava/lang/Integer;") rfl hlen (hs _ (by decide +kernel)) hA
  obtain ⟨ca, hca, hTc⟩ := va_Tof (f := fun k => .ref (ic k)) (N := 256) (A := la_9 s) (by decide) (hs (Cond.arrayOf (.static "java/lang/Integer$IntegerCache" "cache" "[Ljava/lang/Integer;") (.object "java/lang/Integer")) (by decide +kernel)) hlen hel hA
  refine ⟨((fun k => match k with | 0 => c0 | 1 => c1 | 2 => c2 | 3 => c3 | 4 => c4 | 5 => c5 | 6 => c6 | _ => c7, fun k => match k with | 0 => i0 | 1 => i1 | 2 => i2 | 3 => i3 | 4 => i4 | 5 => i5 | 6 => i6 | _ => i7), aI, aZ, aJ, aO), (ic, e0, ca, mo), ⟨⟨fun k q hk => ?_, fun k q hk => ?_⟩, env_N hts, env_F hts, va_AO.of (hts _ q156), hmo, va_Dc.of (hts _ q1309)⟩, ⟨va_Nc.of (hs _ (by decide +kernel)), va_Nc.of (hs _ (by decide +kernel)), va_Nc.of (hs _ (by decide +kernel))⟩, ?_⟩
  · match k, hk with
    | 0, hk => cases hk; exact h0
    | 1, hk => cases hk; exact h1
    | 2, hk => cases hk; exact h2
    | 3, hk => cases hk; exact h3
    | 4, hk => cases hk; exact h4
    | 5, hk => cases hk; exact h5
    | 6, hk => cases hk; exact h6
    | 7, hk => cases hk; exact h7
    | k + 8, hk => cases hk
  · match k, hk with
    | 0, hk => cases hk; exact ⟨hI1, hI2⟩
    | 1, hk => cases hk; exact ⟨hZ1, hZ2⟩
    | 2, hk => cases hk; exact ⟨hJ1, hJ2⟩
    | 3, hk => cases hk; exact ⟨fun N z => ⟨(fun k h => by cases h), kO, hO3, comp, hO4⟩, kO, comp, hO3, hO4, hO1, hO5⟩
    | k + 4, hk => cases hk
  · exact ⟨va_Zof (hts _ q401) (hts _ (lw_all_tbl q53)) (va_eqt (hs (Cond.eq (.static "java/lang/Integer$IntegerCache" "high" "I") (.int 127)) (by decide +kernel))) hA, va_Zref (hts _ q403) (hts _ (lw_all_tbl q53)) hca hA, hTc, hic, va_Zref (hts _ q81) (hts _ (lw_all_tbl q36)) he0 hA, hT0, vx_Zqof (hts _ q231) (hts _ (lw_all_tbl q42)) (hs _ (by decide +kernel)) hA, vx_Zqof (hts _ q233) (hts _ (lw_all_tbl q42)) (hs _ (by decide +kernel)) hA⟩
