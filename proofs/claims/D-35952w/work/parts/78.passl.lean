/-! after a find came to a room: rows, ranges; the finds on their way -/
theorem xc_r1 {S : gs_T} {i : Nat} {r : Int32} {k : Nat} (h : k ≠ 20 ∧ k ≠ 21 ∧ k ≠ 22) (h1 : k ≠ 70) (h2 : k ≠ 71) : xc_come1 S i r k = S k := by
  unfold xc_come1
  split
  · exact xs_hrow h h1 h2
  · funext j
    show (if _ then _ else if _ then _ else if _ then _ else xc_hand S i (S 0 0) r k j) = _
    rw [if_neg (fun z => z.1.elim h1 h2), if_neg (fun z => h.1 z.1), if_neg (fun z => h.2.1 z.1), xs_hrow h h1 h2]
theorem xc_row {S : gs_T} {i : Nat} {r : Int32} {k : Nat} (h : k ≠ 20 ∧ k ≠ 21 ∧ k ≠ 22) (h1 : k ≠ 70) (h2 : k ≠ 71) (h3 : k ≠ 36) (h4 : k ≠ 39) : xc_come S i r k = S k := by
  unfold xc_come
  rw [xc_r1 h h1 h2, gs_up_row h3, gs_up_row h4]
theorem xc_36 {S : gs_T} {i j : Nat} {r : Int32} : xc_come S i r 36 j = if j = i then 0 else S 36 j := by
  unfold xc_come
  rw [xc_r1 ⟨by decide, by decide, by decide⟩ (by decide) (by decide), gs_up_at, gs_up_row (by decide)]
  rfl
theorem xc_39 {S : gs_T} {i j : Nat} {r : Int32} : xc_come S i r 39 j = if j = i then r else S 39 j := by
  unfold xc_come
  rw [xc_r1 ⟨by decide, by decide, by decide⟩ (by decide) (by decide), gs_up_row (by decide), gs_up_at]
  rfl
/-- rows 20, 21, 22 of other lists -/
theorem xc_l1 {S : gs_T} {i z : Nat} {r : Int32} {k : Nat} (hz : z ≠ 7 + i) (hk : k = 20 ∨ k = 21 ∨ k = 22) : xc_come1 S i r k z = S k z := by
  have w : xc_hand S i (S 0 0) r k z = S k z := by
    unfold xc_hand
    rw [gs_up_row (by omega), gs_up_row (by omega)]
    rcases hk with rfl | rfl | rfl
    · rw [xs_20]; exact if_neg hz
    · rw [xs_21]; exact if_neg hz
    · rw [xs_22]; exact if_neg hz
  unfold xc_come1
  split
  · exact w
  · show (if _ then _ else if _ then _ else if _ then _ else xc_hand S i (S 0 0) r k z) = _
    rw [if_neg (fun z => by omega), if_neg (fun q => hz q.2), if_neg (fun q => hz q.2), w]
theorem xc_l {S : gs_T} {i z : Nat} {r : Int32} {k : Nat} (hz : z ≠ 7 + i) (hk : k = 20 ∨ k = 21 ∨ k = 22) : xc_come S i r k z = S k z := by
  unfold xc_come
  rw [xc_l1 hz hk, gs_up_row (by omega), gs_up_row (by omega)]
theorem xc_nz {S : gs_T} {i z : Nat} {r : Int32} (hz : z ≠ 7 + i) : nz (xc_come S i r) z = nz S z := by
  unfold nz
  rw [xc_l hz (by simp)]
theorem xc_cz {S : gs_T} {i z : Nat} {r : Int32} (hz : z ≠ 7 + i) : cz (xc_come S i r) z = cz S z := by
  unfold cz
  rw [xc_l hz (by simp)]
/-- the list of hands itself -/
theorem xc_z1 {S : gs_T} {i : Nat} {r : Int32} (hz : xi_z S (7 + i) 12) (h1 : 1 ≤ nz S (7 + i)) : xi_z (xc_come1 S i r) (7 + i) 12 ∧ nz (xc_come1 S i r) (7 + i) = min 12 (nz S (7 + i) + 1) ∧ cz (xc_come1 S i r) (7 + i) = na_C (nz S (7 + i)) (cz S (7 + i)) := by
  obtain ⟨z1, z2, z3, z4, z5⟩ := hz
  have hzz : xi_z S (7 + i) 12 := ⟨z1, z2, z3, z4, z5⟩
  have nb := na_Cb (nz S (7 + i)) (by omega) (cz S (7 + i)) (by omega) z3
  have nc : na_C (nz S (7 + i)) (cz S (7 + i)) ≤ 33 := by
    unfold na_C
    split
    · have : ∀ c, c < 13 → na_m c ≤ 33 := by decide +kernel
      exact this _ (by omega)
    · exact z5
  have hn : nz (xc_hand S i (S 0 0) r) (7 + i) = nz S (7 + i) + 1 := by rw [xs_hnz hzz (by decide), if_pos rfl]
  have hc : cz (xc_hand S i (S 0 0) r) (7 + i) = na_C (nz S (7 + i)) (cz S (7 + i)) := by rw [xs_hcz hzz (by decide), if_pos rfl]
  have h21 : xc_hand S i (S 0 0) r 21 (7 + i) = nI (nz S (7 + i) + 1) := by
    unfold xc_hand
    rw [gs_up_row (by decide), gs_up_row (by decide), xs_21]
    show (if 7 + i = 7 + i then S 21 (7 + i) + 1 else S 21 (7 + i)) = _
    rw [if_pos rfl, z1]
    exact nI_1 _
  have h22 : xc_hand S i (S 0 0) r 22 (7 + i) = nI (na_C (nz S (7 + i)) (cz S (7 + i))) := by
    unfold xc_hand
    rw [gs_up_row (by decide), gs_up_row (by decide), xs_22]
    show (if 7 + i = 7 + i then _ else _) = _
    rw [if_pos rfl]
  unfold xc_come1
  by_cases c : nz S (7 + i) < 12
  · rw [if_pos c]
    refine ⟨?_, by rw [hn]; omega, hc⟩
    unfold xi_z
    rw [hn, hc, h21, h22]
    exact ⟨rfl, by omega, nb.2.2, rfl, nc⟩
  · rw [if_neg c]
    have e12 : nz S (7 + i) = 12 := by omega
    have P : ∀ k j, xc_shift (xc_hand S i (S 0 0) r) i k j = if (k = 70 ∨ k = 71) ∧ j / 16 = i ∧ 1 ≤ j % 16 then (xc_hand S i (S 0 0) r) k (j + 1) else if k = 20 ∧ j = 7 + i then (xc_hand S i (S 0 0) r) 20 j + 1 else if k = 21 ∧ j = 7 + i then nI 12 else (xc_hand S i (S 0 0) r) k j := fun k j => rfl
    have s21 : xc_shift (xc_hand S i (S 0 0) r) i 21 (7 + i) = nI 12 := by
      rw [P, if_neg (fun z => by have := z.1; omega), if_neg (fun z => absurd z.1 (by decide)), if_pos ⟨rfl, rfl⟩]
    have s22 : xc_shift (xc_hand S i (S 0 0) r) i 22 (7 + i) = nI (na_C (nz S (7 + i)) (cz S (7 + i))) := by
      rw [P, if_neg (fun z => by have := z.1; omega), if_neg (fun z => absurd z.1 (by decide)), if_neg (fun z => absurd z.1 (by decide)), h22]
    have sn : nz (xc_shift (xc_hand S i (S 0 0) r) i) (7 + i) = 12 := by
      unfold nz; rw [s21]; exact nI_clamp (by decide)
    have sc : cz (xc_shift (xc_hand S i (S 0 0) r) i) (7 + i) = na_C (nz S (7 + i)) (cz S (7 + i)) := by
      unfold cz; rw [s22]; exact nI_clamp (by omega)
    refine ⟨?_, by rw [sn]; omega, sc⟩
    unfold xi_z
    rw [sn, sc, s21, s22]
    exact ⟨rfl, by decide, by omega, rfl, nc⟩
theorem xc_z {S : gs_T} {i : Nat} {r : Int32} (hI : xi_ok S) (hi : i < nz S 1) : xi_z (xc_come S i r) (7 + i) 12 ∧ nz (xc_come S i r) (7 + i) = min 12 (nz S (7 + i) + 1) := by
  have hI1 : xi_ok (gs_up (gs_up S 39 i r) 36 i 0) := xi_up (k := 36) (i := i) (v := 0) rfl (xi_up (k := 39) (i := i) (v := r) rfl hI)
  have hn : ∀ z, nz (gs_up (gs_up S 39 i r) 36 i 0) z = nz S z := fun z => by rw [nz_up rfl, nz_up rfl]
  have h4 := hI1.2.2.2.2.1 i (by rw [hn]; exact hi)
  have h5 := xc_z1 (r := r) h4.1 h4.2
  rw [hn] at h5
  exact ⟨h5.1, h5.2.1⟩
theorem xi_come {S : gs_T} {i : Nat} {r : Int32} (hI : xi_ok S) (hi : i < nz S 1) : xi_ok (xc_come S i r) := by
  have hz := xc_z (r := r) hI hi
  have zs : ∀ z m, z ≠ 7 + i → xi_z S z m → xi_z (xc_come S i r) z m := fun z m hne h => by
    unfold xi_z
    rw [xc_nz hne, xc_cz hne, xc_l hne (by simp), xc_l hne (by simp)]
    exact h
  have R : ∀ {k}, k ≠ 20 ∧ k ≠ 21 ∧ k ≠ 22 → k ≠ 70 → k ≠ 71 → k ≠ 36 → k ≠ 39 → xc_come S i r k = S k := fun a b c d e => xc_row a b c d e
  have n4 := (hI.2.2.2.2.1 i hi).2
  obtain ⟨⟨a0, a0'⟩, a1, a2, a3, a4, a5, a6, a7⟩ := hI
  refine ⟨⟨zs 0 4 (by omega) a0, by rw [xc_nz (by omega)]; exact a0'⟩, zs 1 30 (by omega) a1, zs 2 20 (by omega) a2, fun u hu => zs (3 + u) 6 (by omega) (a3 u hu), fun j hj => ?_, fun j hj => ?_, fun j hj => ?_, fun u j hu hj => ?_⟩
  · rw [xc_nz (by omega)] at hj
    by_cases e : j = i
    · subst e
      exact ⟨hz.1, by rw [hz.2]; omega⟩
    · exact ⟨zs (7 + j) 12 (by omega) (a4 j hj).1, by rw [xc_nz (by omega)]; exact (a4 j hj).2⟩
  · rw [xc_nz (by omega)] at hj
    rw [R ⟨by decide, by decide, by decide⟩ (by decide) (by decide) (by decide) (by decide), R ⟨by decide, by decide, by decide⟩ (by decide) (by decide) (by decide) (by decide), R ⟨by decide, by decide, by decide⟩ (by decide) (by decide) (by decide) (by decide)]
    exact a5 j hj
  · rw [xc_nz (by omega)] at hj
    rw [R ⟨by decide, by decide, by decide⟩ (by decide) (by decide) (by decide) (by decide), R ⟨by decide, by decide, by decide⟩ (by decide) (by decide) (by decide) (by decide)]
    exact a6 j hj
  · rw [xc_nz (by omega)] at hj
    rw [R ⟨by decide, by decide, by decide⟩ (by decide) (by decide) (by decide) (by decide)]
    exact a7 u j hu hj
/-- how many finds are on their way -/
def ctn (S : gs_T) : Nat → Nat
  | 0 => 0
  | n + 1 => ctn S n + if S 36 n = 1 then 1 else 0
def ct (S : gs_T) : Nat := ctn S (nz S 1)
theorem ctn_eq {S S' : gs_T} {n : Nat} (h : ∀ j, j < n → S' 36 j = S 36 j) : ctn S' n = ctn S n := by
  induction n with
  | zero => rfl
  | succ n ih => show ctn S' n + _ = ctn S n + _; rw [ih (fun j hj => h j (by omega)), h n (by omega)]
theorem ct_up {S : gs_T} {k i : Nat} {v : Int32} (h1 : Nat.beq 21 k = false) (h2 : Nat.beq 36 k = false) : ct (gs_up S k i v) = ct S := by
  unfold ct
  rw [nz_up h1]
  exact ctn_eq (fun j _ => by rw [gs_sk h2])
theorem ct_come {S : gs_T} {i : Nat} {r : Int32} (hi : i < nz S 1) (h1 : S 36 i = 1) : ct (xc_come S i r) + 1 = ct S := by
  unfold ct
  rw [xc_nz (by omega)]
  have : ∀ n, i < n → ctn (xc_come S i r) n + 1 = ctn S n := by
    intro n
    induction n with
    | zero => intro h; omega
    | succ n ih =>
      intro h
      show ctn (xc_come S i r) n + (if xc_come S i r 36 n = 1 then 1 else 0) + 1 = ctn S n + (if S 36 n = 1 then 1 else 0)
      rw [xc_36]
      by_cases e : n = i
      · subst e
        rw [if_pos rfl, if_pos h1, if_neg (by decide), ctn_eq (fun j hj => by rw [xc_36, if_neg (by omega)])]
      · rw [if_neg e]
        have := ih (by omega)
        omega
  exact this _ hi
theorem xq_400 {p : Int32} (h : xf_isIn p 1 400 = true) : p.toNatClampNeg ≤ 400 ∧ p = nI p.toNatClampNeg := by
  obtain ⟨h0, h1⟩ := of_decide_eq_true h
  have h0 : ¬ p < 0 := fun z => h0 (by
    rw [Int32.lt_iff_toInt_lt] at z ⊢
    have e0 : (0 : Int32).toInt = 0 := rfl
    have e1 : (1 : Int32).toInt = 1 := rfl
    omega)
  obtain ⟨j, hj, rfl⟩ := nI_of h0
  rw [nI_clamp hj]
  refine ⟨?_, rfl⟩
  rcases Nat.lt_or_ge 400 j with q | q
  · exact absurd (nI_lt (a := 400) q hj) h1
  · exact q
section RVA
variable {p : Program} {l : Launch} {e : Env} {R : Room} {s : State} {m : MethodId} {args : Array Value} {below : List Frame} {meth : Method} {c : Code} {H : Heap} {locs : List Loc} {cells slots : Nat} {Q : State → Prop}
variable {cc bytes : ByteArray} {pc nL maxL index n mc ms : Nat} {ls : Array Slot} {rest st0 As : List Value} {E : en_T} {C : ex_C} {A A0 A1 A2 : Nat → Prop} {y : MethodName} {rm : Room} {ret : Option FieldType} {P : Prop} {own K : String} {X : Heap → Prop} {v : Option Value} {B : Heap → Prop} {b : Nat}
/-- a call that knows of a part of the area alone -/
theorem cq_VA (hK : ex_K E C s) (hZ : ex_H C A s s.heap) (hAA : ∀ a, A0 a → A a) (hS : va_S A0 s.heap H locs) (hA2 : ∀ a, A2 a → A a) (hA2n : ∀ a, H.size ≤ a → A2 a) (hX : X H) (hP : P)
    (hM : Met l y (ws_ y bytes maxL ret) rm (cpc E C A2 H.size (.ref b :: As) X P) (cq_Q v B A1) mc ms A1) (hA1 : ∀ a, A1 a → A0 a)
    (Sx : CallFix p m c cc nL s args lw_all own) (cw : CallW R s args own K index y bytes maxL ret (ws_ y bytes maxL ret) rm mc ms n) (hrecv : ∃ cell : Cell, H[b]? = some cell ∧ cell.vm.isStatics = false ∧ s.vm.findClass K = some cell.cls)
    (hn : As.length = n) (hsize : ls.size = nL) (hst : st0 = As.reverse ++ .ref b :: rest) (hroom : (rest.map fun v => v.category).sum ≤ 8) (hdg : decode cc pc = .ok (.invokevirtual index, 3)) (hf : cells + mc ≤ R.cells ∧ slots + ms ≤ R.slots)
    (kk : ∀ (H1 : Heap) (locs1 : List Loc), B H1 → H.size ≤ H1.size → (∀ q : Nat, q < H.size → ¬ A1 q → H1[q]? = H[q]?) → va_S A0 s.heap H1 locs1 → W p l e R s m args below meth c H1 locs1 (cells + mc) (slots + ms) Q (F0 m (pc + 3) ls (v.toList ++ rest))) : W p l e R s m args below meth c H locs cells slots Q (F0 m pc ls st0) :=
  cq_call (va_runV (As := As) (rest := rest) Sx hM cw ⟨cpc_blind, hrecv, fun U hU hW => ⟨rfl, ⟨by rw [hU], ex_K.warm hW hK, by
    rw [hU]
    exact ex_H.moved hW.alike ((hZ.kept (fun a h1 h2 => hS.2.1 a h1 (fun z => h2 (hAA a z)))).narrow hA2), hA2n⟩, by rw [hU]; exact hX, hP⟩⟩ rfl hn hsize hst (lv_room hroom) hdg hf) hS (fun q _ h => hA1 q h) hA1 kk
end RVA
theorem ct_le {S : gs_T} (hI : xi_ok S) : ct S ≤ 30 := by
  have : ∀ n, ctn S n ≤ n := by
    intro n
    induction n with
    | zero => exact Nat.le_refl _
    | succ n ih =>
      show ctn S n + (if S 36 n = 1 then 1 else 0) ≤ n + 1
      split <;> omega
  exact Nat.le_trans (this _) hI.2.1.2.1
