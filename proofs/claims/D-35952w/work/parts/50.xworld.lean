/-! Lostroom's world by keys: 0 the object; 1 z list z (0 trains, 1 finds, 2 claims, 3..6 the trains' stops, 7 + i the hands of find i); 2 z its array; 3 i find i; 4 i claim i; 5 (16 i + j) hand j of find i; 6 k the int array of field k.
    The store S: rows 0..11 the object's ints and int arrays (by field); 20, 21, 22 z: modCount, size, capacity of list z; 30 + k i: field k of find i; 50 + k i: field k of claim i; 70, 71 (16 i + j): day, room of a hand; 72 (8 t + j): stop j of train t -/
def nz (S : gs_T) (z : Nat) : Nat := (S 21 z).toNatClampNeg
def cz (S : gs_T) (z : Nat) : Nat := (S 22 z).toNatClampNeg
def xok (S : gs_T) (t i : Nat) : Prop := match t with
  | 0 => i = 0
  | 1 => i < 7 + nz S 1
  | 2 => i < 7 + nz S 1 ∧ cz S i ≠ 0
  | 3 => i < nz S 1
  | 4 => i < nz S 2
  | 5 => i / 16 < nz S 1 ∧ i % 16 < nz S (7 + i / 16)
  | 6 => 1 ≤ i ∧ i ≤ 4
  | _ => False
def xfs (g : kw_A) (S : gs_T) : List Value := [.int (S 0 0), .ref (g 6 1), .ref (g 6 2), .ref (g 6 3), .ref (g 6 4), .ref (g 1 0), .int (S 6 0), .ref (g 1 1), .ref (g 1 2), .int (S 9 0), .int (S 10 0), .int (S 11 0)]
def ffs (g : kw_A) (S : gs_T) (i : Nat) : List Value := [.int (S 30 i), .int (S 31 i), .int (S 32 i), .int (S 33 i), .int (S 34 i), .int (S 35 i), .int (S 36 i), .int (S 37 i), .int (S 38 i), .int (S 39 i), .int (S 40 i), .int (S 41 i), .int (S 42 i), .ref (g 1 (7 + i)), .ref (g 0 0)]
def cfs (g : kw_A) (S : gs_T) (i : Nat) : List Value := [.int (S 50 i), .int (S 51 i), .int (S 52 i), .int (S 53 i), .int (S 54 i), .int (S 55 i), .int (S 56 i), .int (S 57 i), .int (S 58 i), .ref (g 0 0)]
abbrev xh_T : Type := Nat → Nat → Option Nat
def xen (E : en_T) (C : ex_C) (g : kw_A) (h : xh_T) (S : gs_T) (t i : Nat) : va_E := match t with
  | 0 => .inr (0, xfs g S)
  | 1 => .inr (5, [.int (S 20 i), .ref (if cz S i = 0 then C.2.1 else g 2 i), .int (S 21 i)])
  | 2 => .inl (E.2.2.2.2, cz S i, .inr (.inr (.inr (.inr (h i)))))
  | 3 => .inr (2, ffs g S i)
  | 4 => .inr (4, cfs g S i)
  | 5 => .inr (3, [.int (S 70 i), .int (S 71 i)])
  | 6 => .inl (E.2.1, (if i = 1 then 24 else 8), .inl (S i))
  | _ => .inr (0, [])
abbrev xw (E : en_T) (C : ex_C) (g : kw_A) (h : xh_T) (S : gs_T) (A : Nat → Prop) (H : Heap) : Prop := kw E (xok S) g (xen E C g h S) A H
/-- the elements of list z -/
def xel (C : ex_C) (g : kw_A) (S : gs_T) (z j : Nat) : Nat := if z = 0 then g 1 (3 + j) else if z = 1 then g 3 j else if z = 2 then g 4 j else if z < 7 then C.1 (S 72 (8 * (z - 3) + j) + 128).toNatClampNeg else g 5 (16 * (z - 7) + j)
/-- sizes, capacities and ranges -/
def xi_z (S : gs_T) (z m : Nat) : Prop := S 21 z = nI (nz S z) ∧ nz S z ≤ m ∧ nz S z ≤ cz S z ∧ S 22 z = nI (cz S z) ∧ cz S z ≤ 33
def xi_ok (S : gs_T) : Prop := (xi_z S 0 4 ∧ nz S 0 = 4) ∧ xi_z S 1 30 ∧ xi_z S 2 20 ∧ (∀ t, t < 4 → xi_z S (3 + t) 6) ∧ (∀ i, i < nz S 1 → xi_z S (7 + i) 12 ∧ 1 ≤ nz S (7 + i)) ∧
  (∀ i, i < nz S 1 → vp_in (S 30 i) 8 ∧ vp_in (S 31 i) 10 ∧ (S 38 i = 0 ∨ S 38 i = 1)) ∧ (∀ i, i < nz S 2 → vp_in (S 50 i) 8 ∧ vp_in (S 51 i) 10) ∧ ∀ t j, t < 4 → j < nz S (3 + t) → vp_in (S 72 (8 * t + j)) 6
/-- the lists' arrays hold their elements -/
def xh (C : ex_C) (g : kw_A) (h : xh_T) (S : gs_T) : Prop := ∀ z, z < 7 + nz S 1 → ∀ j, j < nz S z → h z j = some (xel C g S z j)
theorem xi_zz {S : gs_T} (hI : xi_ok S) {z : Nat} (hz : z < 7 + nz S 1) : xi_z S z 30 := by
  obtain ⟨⟨h0, -⟩, h1, h2, h3, h4, -⟩ := hI
  have w : ∀ {m}, xi_z S z m → m ≤ 30 → xi_z S z 30 := fun h hm => ⟨h.1, Nat.le_trans h.2.1 hm, h.2.2⟩
  rcases (show z = 0 ∨ z = 1 ∨ z = 2 ∨ (3 ≤ z ∧ z < 7) ∨ 7 ≤ z by omega) with rfl | rfl | rfl | ⟨a, b⟩ | a
  · exact w h0 (by decide)
  · exact h1
  · exact w h2 (by decide)
  · have := h3 (z - 3) (by omega)
    rw [show 3 + (z - 3) = z by omega] at this
    exact w this (by decide)
  · have := (h4 (z - 7) (by omega)).1
    rw [show 7 + (z - 7) = z by omega] at this
    exact w this (by decide)
theorem xe_1 {E : en_T} {C : ex_C} {g : kw_A} {h : xh_T} {S : gs_T} {z : Nat} (hc : cz S z ≠ 0) : xen E C g h S 1 z = .inr (5, [.int (S 20 z), .ref (g 2 z), .int (S 21 z)]) := by
  show (Sum.inr (5, [.int (S 20 z), .ref (if cz S z = 0 then C.2.1 else g 2 z), .int (S 21 z)]) : va_E) = _
  rw [if_neg hc]
/-- what get asks -/
theorem xg_get {E : en_T} {C : ex_C} {g : kw_A} {h : xh_T} {S : gs_T} (hI : xi_ok S) (hh : xh C g h S) {z : Nat} (hz : z < 7 + nz S 1) {x : Int32} (h0 : ¬ x < 0) (hn : x < S 21 z) {y : Nat} (hy : xel C g S z x.toNatClampNeg = y) :
    xok S 1 z ∧ xen E C g h S 1 z = .inr (5, [.int (S 20 z), .ref (g 2 z), .int (S 21 z)]) ∧ xok S 2 z ∧ xen E C g h S 2 z = .inl (E.2.2.2.2, cz S z, .inr (.inr (.inr (.inr (h z))))) ∧ vp_in x (cz S z) ∧ h z x.toNatClampNeg = some y ∧ ¬ x < 0 ∧ x < S 21 z := by
  obtain ⟨a1, a2, a3, a4, a5⟩ := xi_zz hI hz
  obtain ⟨j, hj, rfl⟩ := nI_of h0
  rw [nI_clamp hj] at hy ⊢
  have hjn : j < nz S z := by
    rw [a1] at hn
    exact (nI_ltI hj (by omega)).mp hn
  have hc : cz S z ≠ 0 := by omega
  exact ⟨hz, xe_1 hc, ⟨hz, hc⟩, rfl, vp_in_nI (by omega) (by omega), by rw [hh z hz j hjn, hy], h0, hn⟩
/-- what contains asks of a train's stops -/
theorem xg_has {E : en_T} {C : ex_C} {g : kw_A} {h : xh_T} {S : gs_T} (hI : xi_ok S) (hh : xh C g h S) {t : Nat} (ht : t < 4) :
    il_P E C (xok S) g (xen E C g h S) (3 + t) (S 20 (3 + t)) (nz S (3 + t)) (if cz S (3 + t) = 0 then C.2.1 else g 2 (3 + t)) (cz S (3 + t)) (h (3 + t)) (fun j => (S 72 (8 * t + j) + 128).toNatClampNeg) := by
  have hz : 3 + t < 7 + nz S 1 := by omega
  obtain ⟨a1, a2, a3, a4, a5⟩ := hI.2.2.2.1 t ht
  refine ⟨hz, ?_, by omega, fun hk => ?_, fun j hj => ⟨?_, ?_⟩⟩
  · show (Sum.inr (5, [.int (S 20 (3 + t)), .ref (if cz S (3 + t) = 0 then C.2.1 else g 2 (3 + t)), .int (S 21 (3 + t))]) : va_E) = _
    rw [a1]
  · have hc : cz S (3 + t) ≠ 0 := by omega
    exact ⟨if_neg hc, ⟨hz, hc⟩, rfl, a3, by omega⟩
  · rw [hh (3 + t) hz j hj]
    unfold xel
    rw [if_neg (by omega), if_neg (by omega), if_neg (by omega), if_pos (by omega), show 3 + t - 3 = t by omega]
  · obtain ⟨k, hk, e⟩ := vp_in_of (hI.2.2.2.2.2.2.2 t j ht hj) (by decide)
    show (S 72 (8 * t + j) + 128).toNatClampNeg < 256
    rw [e, show (128 : Int32) = nI 128 from rfl, nI_add, nI_clamp (by omega)]
    omega
theorem xr_w {x : Int32} (h : vp_in x 6) : (x + 128).toNatClampNeg < 256 ∧ ¬ x < (-128) ∧ ¬ 127 < x ∧ vp_in (x + 128) 256 := by
  obtain ⟨k, hk, rfl⟩ := vp_in_of h (by decide)
  have e1 : ¬ nI k < (-128) := by
    intro h
    rw [Int32.lt_iff_toInt_lt, nI_toInt (by omega)] at h
    have : (-128 : Int32).toInt = -128 := rfl
    omega
  have e2 : ¬ 127 < nI k := by
    intro h
    rw [Int32.lt_iff_toInt_lt, nI_toInt (by omega)] at h
    have : (127 : Int32).toInt = 127 := rfl
    omega
  have e3 : nI k + 128 = nI (k + 128) := nI_add k 128
  rw [e3, nI_clamp (by omega)]
  exact ⟨by omega, e1, e2, vp_in_nI (by omega) (by decide)⟩
theorem xp_6 {p : Int32} (h : vp_in p 10) (h6 : ¬ p < 6) : (p - 6).toNatClampNeg < 4 ∧ p - 6 = nI (p - 6).toNatClampNeg := by
  obtain ⟨j, h1, rfl⟩ := vp_in_of h (by decide)
  have h7 : 6 ≤ j := by
    rcases Nat.lt_or_ge j 6 with q | q
    · exact absurd (nI_lt q (by decide)) h6
    · exact q
  rw [show (6 : Int32) = nI 6 from rfl, pk_sub h7, nI_clamp (by omega)]
  exact ⟨by omega, rfl⟩
theorem xi_fn {S : gs_T} (hI : xi_ok S) : S 21 1 = nI (nz S 1) ∧ nz S 1 ≤ 30 := ⟨hI.2.1.1, hI.2.1.2.1⟩
theorem xi_cn {S : gs_T} (hI : xi_ok S) : S 21 2 = nI (nz S 2) ∧ nz S 2 ≤ 20 := ⟨hI.2.2.1.1, hI.2.2.1.2.1⟩

theorem xi_tr {S : gs_T} (hI : xi_ok S) : S 21 0 = nI 4 := by
  have := hI.1
  rw [this.1.1, this.2]
theorem nI_nn {i : Nat} (h : i < 2 ^ 31) : ¬ nI i < 0 := nI_pos h
