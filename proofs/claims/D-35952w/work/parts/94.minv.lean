/-! LostroomModel: what its stores hold all through a run, so that no place is out of range -/
def mi_fr (k : Nat) : Bool := !(List.contains [8, 25, 9, 10, 22, 26, 27, 19] k)
def mi_ok (S : gs_T) : Prop := (∃ n, n ≤ 30 ∧ S 8 0 = nI n) ∧ (∃ n, n ≤ 20 ∧ S 25 0 = nI n) ∧ (∀ j, vp_in (S 9 j) 8) ∧ (∀ j, vp_in (S 10 j) 10) ∧ (∀ j, vp_in (S 22 j) 13) ∧ (∀ j, vp_in (S 26 j) 8) ∧ (∀ j, vp_in (S 27 j) 10) ∧ ∀ j, S 19 j = 0 ∨ S 19 j = 1
theorem mi_kd {S : gs_T} (h : mi_ok S) (j : Nat) : vp_in (S 9 j) 8 := h.2.2.1 j
theorem mi_pl {S : gs_T} (h : mi_ok S) (j : Nat) : vp_in (S 10 j) 10 := h.2.2.2.1 j
theorem mi_hm {S : gs_T} (h : mi_ok S) (j : Nat) : vp_in (S 22 j) 13 := h.2.2.2.2.1 j
theorem mi_ck {S : gs_T} (h : mi_ok S) (j : Nat) : vp_in (S 26 j) 8 := h.2.2.2.2.2.1 j
theorem mi_cp {S : gs_T} (h : mi_ok S) (j : Nat) : vp_in (S 27 j) 10 := h.2.2.2.2.2.2.1 j
theorem mi_h {S : gs_T} (h : mi_ok S) (j : Nat) : S 19 j = 0 ∨ S 19 j = 1 := h.2.2.2.2.2.2.2 j
theorem mi_clb (p : Int32) : p.toNatClampNeg < 2 ^ 31 := by
  have h := Int32.toInt_lt p
  rw [← Int32.toNat_toInt]
  omega
theorem mi_n {S : gs_T} (h : mi_ok S) : S 8 0 = nI (S 8 0).toNatClampNeg := by
  obtain ⟨⟨n, h1, h2⟩, -⟩ := h
  rw [h2, nI_clamp (by omega)]
theorem mi_m {S : gs_T} (h : mi_ok S) : S 25 0 = nI (S 25 0).toNatClampNeg := by
  obtain ⟨-, ⟨n, h1, h2⟩, -⟩ := h
  rw [h2, nI_clamp (by omega)]
theorem mi_n30 {S : gs_T} (h : mi_ok S) : (S 8 0).toNatClampNeg ≤ 30 := by
  obtain ⟨⟨n, h1, h2⟩, -⟩ := h
  rw [h2, nI_clamp (by omega)]
  exact h1
theorem mi_m20 {S : gs_T} (h : mi_ok S) : (S 25 0).toNatClampNeg ≤ 20 := by
  obtain ⟨-, ⟨n, h1, h2⟩, -⟩ := h
  rw [h2, nI_clamp (by omega)]
  exact h1
theorem mi_nb {S : gs_T} (_ : mi_ok S) : (S 8 0).toNatClampNeg < 2 ^ 31 := mi_clb _
theorem mi_mb {S : gs_T} (_ : mi_ok S) : (S 25 0).toNatClampNeg < 2 ^ 31 := mi_clb _
theorem mi_row {S : gs_T} {k i : Nat} {v : Int32} (hk : mi_fr k = true) (h : mi_ok S) : mi_ok (gs_up S k i v) := by
  have ne : ∀ r, r ∈ [8, 25, 9, 10, 22, 26, 27, 19] → gs_up S k i v r = S r := by
    intro r hr
    refine gs_up_row (fun e => ?_)
    subst e
    simp only [mi_fr, Bool.not_eq_true'] at hk
    rw [List.contains_iff_mem.mpr hr] at hk
    cases hk
  unfold mi_ok
  rw [ne 8 (by decide), ne 25 (by decide), ne 9 (by decide), ne 10 (by decide), ne 22 (by decide), ne 26 (by decide), ne 27 (by decide), ne 19 (by decide)]
  exact h
theorem mi_in {p a b : Int32} (h : mf_in p a b = true) : a.toInt ≤ p.toInt ∧ p.toInt ≤ b.toInt := by
  simp only [mf_in, decide_eq_true_eq, Int32.lt_iff_toInt_lt] at h
  omega
theorem mi_inv {p b : Int32} {n : Nat} (h : mf_in p 0 b = true) (hb : b.toInt < n) : vp_in p n := by
  have h2 := mi_in h
  rw [Int32.toInt_zero] at h2
  exact vp_in_iff.mpr ⟨h2.1, by omega⟩
theorem mi_cnt {n : Nat} (h : n < 2 ^ 30) : (nI n - 1).toInt = (n : Int) - 1 := by
  have := pk_sub_toInt (a := n) (b := 1) h (by decide)
  rw [show nI 1 = 1 from rfl] at this
  omega
theorem mi_f {S : gs_T} {p : Int32} (ok : mi_ok S) (h : mf_isFind S p = true) : vp_in p 30 := by
  obtain ⟨⟨n, h1, h2⟩, -⟩ := ok
  simp only [mf_isFind, decide_eq_true_eq] at h
  refine mi_inv h ?_
  rw [h2, mi_cnt (by omega)]
  omega
theorem mi_c {S : gs_T} {p : Int32} (ok : mi_ok S) (h : mf_isClaim S p = true) : vp_in p 20 := by
  obtain ⟨-, ⟨n, h1, h2⟩, -⟩ := ok
  simp only [mf_isClaim, decide_eq_true_eq] at h
  refine mi_inv h ?_
  rw [h2, mi_cnt (by omega)]
  omega
theorem mi_e {S : gs_T} {p r : Int32} (ok : mi_ok S) (h : mf_errorOfWords S p r = 0) : vp_in p 20 := by
  by_cases c : mf_isClaim S p = true
  · exact mi_c ok c
  · rw [mf_errorOfWords, if_neg c] at h
    exact absurd h (by decide)
theorem mi_k {p : Int32} (h : mf_isKind p = true) : vp_in p 8 := by
  simp only [mf_isKind, decide_eq_true_eq] at h
  exact mi_inv h (by decide)
theorem mi_w {p : Int32} (h : mf_isWord p = true) : vp_in p 24 := by
  simp only [mf_isWord, decide_eq_true_eq] at h
  exact mi_inv h (by decide)
theorem mi_p {p : Int32} (h : mf_isPlace p = true) : vp_in p 10 := by
  simp only [mf_isPlace, decide_eq_true_eq] at h
  exact mi_inv h (by decide)
theorem mi_t {p : Int32} (h : mf_in p 0 3 = true) : vp_in p 4 := mi_inv h (by decide)
theorem mi_lt {p : Int32} {n : Nat} (h : vp_in p n) (hn : n < 2 ^ 31) : p.toNatClampNeg < n := by
  obtain ⟨j, h1, h2⟩ := vp_in_of h hn
  rw [h2, nI_clamp (by omega)]
  exact h1
theorem mi_c1 {p : Int32} (h : vp_in p 30) : ((12 * p) + 1) = nI (12 * p.toNatClampNeg + 1) := by
  obtain ⟨j, h1, rfl⟩ := vp_in_of h (by decide)
  rw [nI_clamp (by omega), show (12 : Int32) = nI 12 from rfl, pk_mul, nI_1]
theorem mi_c11 {p : Int32} (h : vp_in p 30) : (((12 * p) + 12) - 1) = nI (12 * p.toNatClampNeg + 11) := by
  obtain ⟨j, h1, rfl⟩ := vp_in_of h (by decide)
  rw [nI_clamp (by omega), show (12 : Int32) = nI 12 from rfl, pk_mul, nI_add]
  exact nI_pred _
theorem mi_x2 {p h : Int32} (hp : vp_in p 30) (hh : vp_in h 13) (hn : ¬ h = 12) : vp_in ((12 * p) + h) 360 := by
  obtain ⟨j, h1, rfl⟩ := vp_in_of hp (by decide)
  obtain ⟨i, h2, rfl⟩ := vp_in_of hh (by decide)
  have : i ≠ 12 := fun e => hn (by rw [e]; rfl)
  rw [show (12 : Int32) = nI 12 from rfl, pk_mul, nI_add]
  exact vp_in_nI (by omega) (by decide)
theorem mi_x1 {p x : Int32} (hp : vp_in p 30) (hx : x = 12) : vp_in ((12 * p) + (x - 1)) 360 := by
  rw [hx]
  exact mi_x2 hp (vp_in_nI (n := 11) (by decide) (by decide)) (by decide)
theorem mi_in_n {p b : Int32} (h : mf_in p 1 b = true) : p = nI p.toNatClampNeg := by
  have h1 := (mi_in h).1
  have h2 : ¬ p < 0 := by
    rw [Int32.lt_iff_toInt_lt, Int32.toInt_zero]
    have : (1 : Int32).toInt = 1 := rfl
    omega
  obtain ⟨j, h3, rfl⟩ := nI_of h2
  rw [nI_clamp h3]
theorem mi_r35 (n : Nat) : ∀ (i : Nat) (a : gs_T) {k : Nat}, (k ≠ 23 ∧ k ≠ 24) → mf_comes_R35 n i a k = a k := by
  induction n with
  | zero => intro i a k hk; rfl
  | succ n ih =>
    intro i a k hk
    have e : mf_comes_R35 (n + 1) i a = mf_comes_R35 n (i + 1) (mf_comes_L35 i a) := rfl
    rw [e, ih _ _ hk, mf_comes_L35, gs_up_row hk.2, gs_up_row hk.1]
theorem mi_comes_row {S : gs_T} {p r : Int32} {k : Nat} (hk : k ≠ 15 ∧ k ≠ 16 ∧ k ≠ 22 ∧ k ≠ 23 ∧ k ≠ 24) : mf_comes S p r k = S k := by
  obtain ⟨h1, h2, h3, h4, h5⟩ := hk
  unfold mf_comes
  split
  · rw [gs_up_row h3, gs_up_row h5, gs_up_row h4, gs_up_row h3, mi_r35 _ _ _ ⟨h4, h5⟩, gs_up_row h2, gs_up_row h1]
  · rw [gs_up_row h3, gs_up_row h5, gs_up_row h4, gs_up_row h2, gs_up_row h1]
theorem mi_comes {S : gs_T} {p r : Int32} (h : mi_ok S) : mi_ok (mf_comes S p r) := by
  obtain ⟨a1, a2, a3, a4, a5, a6, a7, a8⟩ := h
  refine ⟨?_, ?_, ?_, ?_, ?_, ?_, ?_, ?_⟩
  · rw [mi_comes_row (by decide)]; exact a1
  · rw [mi_comes_row (by decide)]; exact a2
  · rw [mi_comes_row (by decide)]; exact a3
  · rw [mi_comes_row (by decide)]; exact a4
  · intro j
    unfold mf_comes
    split
    · rename_i c
      rw [gs_up_at]
      by_cases e : j = p.toNatClampNeg
      · subst e
        rw [pk_us, c]
        exact vp_in_nI (n := 12) (by decide) (by decide)
      · rw [pk_un e, gs_up_row (by decide), gs_up_row (by decide), gs_up_at, pk_un e, mi_r35 _ _ _ (by decide), gs_up_row (by decide), gs_up_row (by decide)]
        exact a5 j
    · rename_i c
      rw [gs_up_at]
      by_cases e : j = p.toNatClampNeg
      · subst e
        rw [pk_us]
        obtain ⟨i, h1, h2⟩ := vp_in_of (a5 p.toNatClampNeg) (by decide)
        have h3 : i ≠ 12 := fun z => c (by rw [h2, z]; rfl)
        rw [h2, nI_1]
        exact vp_in_nI (by omega) (by decide)
      · rw [pk_un e, gs_up_row (by decide), gs_up_row (by decide), gs_up_row (by decide), gs_up_row (by decide)]
        exact a5 j
  · rw [mi_comes_row (by decide)]; exact a6
  · rw [mi_comes_row (by decide)]; exact a7
  · rw [mi_comes_row (by decide)]; exact a8
theorem mi_b12 {S S0 : gs_T} {i : Nat} (_ : i < 30) (h : mi_ok S ∧ S 8 0 = S0 8 0 ∧ S 25 0 = S0 25 0) : mi_ok (mf_begins_L12 i S) ∧ (mf_begins_L12 i S) 8 0 = S0 8 0 ∧ (mf_begins_L12 i S) 25 0 = S0 25 0 := by
  unfold mf_begins_L12
  split
  · exact ⟨mi_comes h.1, by rw [mi_comes_row (by decide)]; exact h.2.1, by rw [mi_comes_row (by decide)]; exact h.2.2⟩
  · exact h
theorem mi_R12 (S0 : gs_T) : ∀ (n i : Nat) (a : gs_T), i + n ≤ 30 → (mi_ok a ∧ a 8 0 = S0 8 0 ∧ a 25 0 = S0 25 0) → mi_ok (mf_begins_R12 n i a) ∧ (mf_begins_R12 n i a) 8 0 = S0 8 0 ∧ (mf_begins_R12 n i a) 25 0 = S0 25 0 := by
  intro n
  induction n with
  | zero => intro i a _ h; exact h
  | succ n ih => intro i a hi h; exact ih (i + 1) (mf_begins_L12 i a) (by omega) (mi_b12 (by omega) h)
theorem mi_R49 (S0 : gs_T) : ∀ (n i : Nat) (a : gs_T), (mi_ok a ∧ a 8 0 = S0 8 0 ∧ a 25 0 = S0 25 0) → mi_ok (mf_begins_R49 n i a) ∧ (mf_begins_R49 n i a) 8 0 = S0 8 0 ∧ (mf_begins_R49 n i a) 25 0 = S0 25 0 := by
  intro n
  induction n with
  | zero => intro i a h; exact h
  | succ n ih => intro i a h; exact ih (i + 1) (mf_begins_L49 i a) ⟨mi_row (k := 31) (by decide) (mi_row (k := 30) (by decide) (mi_row (k := 32) (by decide) h.1)), h.2⟩
theorem mi_begins {S : gs_T} (h : mi_ok S) : mi_ok (mf_begins S) := by
  have h30 := mi_n30 h
  exact (mi_R49 S _ _ _ (mi_R12 S _ _ _ (by omega) ⟨mi_row (by decide) h, rfl, rfl⟩)).1
theorem mi_new {S : gs_T} (ok : mi_ok S) (h : ¬ S 8 0 = 30) : vp_in (S 8 0) 30 := by
  obtain ⟨⟨n, h1, h2⟩, -⟩ := ok
  rw [h2] at h ⊢
  have : n ≠ 30 := fun e => h (by rw [e]; rfl)
  exact vp_in_nI (by omega) (by decide)
theorem mi_newc {S : gs_T} (ok : mi_ok S) (h : ¬ S 25 0 = 20) : vp_in (S 25 0) 20 := by
  obtain ⟨-, ⟨n, h1, h2⟩, -⟩ := ok
  rw [h2] at h ⊢
  have : n ≠ 20 := fun e => h (by rw [e]; rfl)
  exact vp_in_nI (by omega) (by decide)
theorem mi_r6 {p : Int32} (h : vp_in p 10) (h6 : 6 ≤ p) : vp_in (p - 6) 4 := by
  obtain ⟨j, h1, rfl⟩ := vp_in_of h (by decide)
  have h7 : 6 ≤ j := (nI_leI (by decide) (by omega)).mp h6
  rw [show (6 : Int32) = nI 6 from rfl, pk_sub h7]
  exact vp_in_nI (by omega) (by decide)
theorem mi_hix {S : gs_T} {p r : Int32} (ok : mi_ok S) (h : mf_isFind S p = true) (h2 : mf_in r 0 ((S 22 p.toNatClampNeg) - 1) = true) : vp_in ((12 * p) + r) 360 := by
  obtain ⟨j, h3, rfl⟩ := vp_in_of (mi_f ok h) (by decide)
  obtain ⟨k, h4, h5⟩ := vp_in_of (mi_hm ok (nI j).toNatClampNeg) (by decide)
  have h6 := mi_in h2
  rw [h5, mi_cnt (by omega), Int32.toInt_zero] at h6
  obtain ⟨i, h7, rfl⟩ := vp_in_of (vp_in_iff.mpr ⟨h6.1, by omega⟩ : vp_in r 12) (by decide)
  rw [show (12 : Int32) = nI 12 from rfl, pk_mul, nI_add]
  exact vp_in_nI (by omega) (by decide)
theorem mi_row9 {S : gs_T} {i : Nat} {v : Int32} (hv : vp_in v 8) (h : mi_ok S) : mi_ok (gs_up S 9 i v) := by
  refine ⟨h.1, h.2.1, fun j => ?_, h.2.2.2⟩
  rw [gs_up_at]
  by_cases e : j = i
  · subst e; rw [pk_us]; exact hv
  · rw [pk_un e]; exact mi_kd h j
theorem mi_row10 {S : gs_T} {i : Nat} {v : Int32} (hv : vp_in v 10) (h : mi_ok S) : mi_ok (gs_up S 10 i v) := by
  refine ⟨h.1, h.2.1, h.2.2.1, fun j => ?_, h.2.2.2.2⟩
  rw [gs_up_at]
  by_cases e : j = i
  · subst e; rw [pk_us]; exact hv
  · rw [pk_un e]; exact mi_pl h j
