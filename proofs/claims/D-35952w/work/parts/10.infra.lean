/-! WORLDS AS A LIST OF ADDRESSES AND WHAT LIES THERE; int stores gs_T: by the field's number and the place -/
abbrev gs_T : Type := Nat → Nat → Int32
def gs_up (S : gs_T) (k i : Nat) (v : Int32) : gs_T := fun a => bif Nat.beq a k then upd (S a) i v else S a
theorem gs_up_at {S : gs_T} {k i : Nat} {v : Int32} : gs_up S k i v k = upd (S k) i v := by simp [gs_up]
theorem gs_up_self (S : gs_T) (k i : Nat) (v : Int32) : gs_up S k i v k i = v := by rw [gs_up_at]; simp [upd]
theorem gs_up_row {S : gs_T} {k i j : Nat} {v : Int32} (h : j ≠ k) : gs_up S k i v j = S j := by
  have e : Nat.beq j k = false := by
    cases hb : Nat.beq j k with
    | false => rfl
    | true => exact absurd (Nat.eq_of_beq_eq_true hb) h
  simp [gs_up, e]
theorem gs_sk {S : gs_T} {k i j : Nat} {v : Int32} (h : Nat.beq j k = false) : gs_up S k i v j = S j := by simp [gs_up, h]
def gs_bz (b : Bool) : Int32 := if b = true then 1 else 0
theorem gs_bz_dec {φ : Prop} [Decidable φ] : (if φ then (1 : Int32) else 0) = gs_bz (decide φ) := by
  by_cases h : φ <;> simp [gs_bz, h]
theorem gs_zf {φ : Prop} [Decidable φ] (h : (if φ then (1 : Int32) else 0) = 0) : ¬ φ := by
  intro k
  rw [if_pos k] at h
  exact absurd h (by decide)
theorem gs_zt {φ : Prop} [Decidable φ] (h : ¬ (if φ then (1 : Int32) else 0) = 0) : φ := by
  by_cases k : φ
  · exact k
  · rw [if_neg k] at h
    exact absurd rfl h
theorem gs_nar {φ : Prop} [Decidable φ] : narrow .boolean (.int (if φ then (1 : Int32) else 0)) = .int (if φ then (1 : Int32) else 0) := by
  by_cases h : φ
  · rw [if_pos h]; rfl
  · rw [if_neg h]; rfl
theorem gs_vnar {x : Int32} (h : x = 0 ∨ x = 1) : vp_nar .boolean x = x := by
  rcases h with rfl | rfl <;> rfl
theorem gs_znar {x : Int32} (h : x = 0 ∨ x = 1) : narrow .boolean (.int x) = .int x := by
  rcases h with rfl | rfl <;> rfl
def lp_up {α : Type} (g : Nat → α → α) : Nat → Nat → α → α
  | 0, _, a => a
  | n + 1, i, a => lp_up g n (i + 1) (g i a)
def lp_dn {α : Type} (g : Nat → α → α) : Nat → α → α
  | 0, a => a
  | n + 1, a => lp_dn g n (g n a)
/-- iffs of a join's value along a path -/
theorem gi_cb_t {c : Prop} (h : c) : True ↔ c := ⟨fun _ => h, fun _ => trivial⟩
theorem gi_cb_f {c : Prop} (h : ¬ c) : False ↔ c := ⟨fun k => k.elim, h⟩
theorem gi_nb_t {c : Prop} (h : c) : False ↔ ¬ c := ⟨fun k => k.elim, fun k => k h⟩
theorem gi_nb_f {c : Prop} (h : ¬ c) : True ↔ ¬ c := ⟨fun _ => h, fun _ => trivial⟩
theorem gi_ca_t {c a : Prop} (h : c) : a ↔ c ∧ a := ⟨fun k => ⟨h, k⟩, fun k => k.2⟩
theorem gi_ca_f {c a : Prop} (h : ¬ c) : False ↔ c ∧ a := ⟨fun k => k.elim, fun k => h k.1⟩
theorem gi_na_t {c a : Prop} (h : c) : False ↔ (¬ c) ∧ a := ⟨fun k => k.elim, fun k => k.1 h⟩
theorem gi_na_f {c a : Prop} (h : ¬ c) : a ↔ (¬ c) ∧ a := ⟨fun k => ⟨h, k⟩, fun k => k.2⟩
theorem gi_co_t {c a : Prop} (h : c) : True ↔ c ∨ a := ⟨fun _ => Or.inl h, fun _ => trivial⟩
theorem gi_co_f {c a : Prop} (h : ¬ c) : a ↔ c ∨ a := ⟨Or.inr, fun k => k.elim (fun g => absurd g h) id⟩
theorem gi_no_t {c a : Prop} (h : c) : a ↔ (¬ c) ∨ a := ⟨Or.inr, fun k => k.elim (fun g => absurd h g) id⟩
theorem gi_no_f {c a : Prop} (h : ¬ c) : True ↔ (¬ c) ∨ a := ⟨fun _ => Or.inl h, fun _ => trivial⟩
theorem gi_ge_t {c a b : Prop} (h : c) : a ↔ (c ∧ a) ∨ ((¬ c) ∧ b) := ⟨fun k => Or.inl ⟨h, k⟩, fun k => k.elim (fun g => g.2) (fun g => absurd h g.1)⟩
theorem gi_ge_f {c a b : Prop} (h : ¬ c) : b ↔ (c ∧ a) ∨ ((¬ c) ∧ b) := ⟨fun k => Or.inr ⟨h, k⟩, fun k => k.elim (fun g => absurd g.1 h) (fun g => g.2)⟩
theorem gi_1 {c : Prop} [Decidable c] (h : True ↔ c) : (1 : Int32) = (if c then 1 else 0) := (if_pos (h.mp trivial)).symm
theorem gi_0 {c : Prop} [Decidable c] (h : False ↔ c) : (0 : Int32) = (if c then 1 else 0) := (if_neg h.mpr).symm
theorem gi_v {a c : Prop} [Decidable a] [Decidable c] (h : a ↔ c) : (if a then (1 : Int32) else 0) = (if c then 1 else 0) := by
  by_cases k : a
  · rw [if_pos k, if_pos (h.mp k)]
  · rw [if_neg k, if_neg (fun g => k (h.mpr g))]
theorem gi_z1 {c : Prop} (h : True ↔ c) : (0 : Int32) = 0 ↔ c := ⟨fun _ => h.mp trivial, fun _ => rfl⟩
theorem gi_z0 {c : Prop} {x : Int32} (n : ¬ x = 0) (h : False ↔ c) : x = 0 ↔ c := ⟨fun k => absurd k n, fun k => (h.mpr k).elim⟩
theorem gi_bz {φ : Prop} [Decidable φ] : (if φ then (1 : Int32) else 0) = 0 ↔ ¬ φ := ⟨gs_zf, fun h => if_neg h⟩
theorem gi_bzn {φ : Prop} [Decidable φ] : (if ¬ φ then (1 : Int32) else 0) = 0 ↔ φ := ⟨fun h => Decidable.not_not.mp (gs_zf h), fun h => if_neg (fun k => k h)⟩
theorem gs_dd {φ : Prop} [Decidable φ] : (if decide φ = true then (1 : Int32) else 0) = (if φ then 1 else 0) := by
  by_cases h : φ <;> simp [h]
theorem gs_bz01 {x : Int32} (h : x = 0 ∨ x = 1) : x = gs_bz (decide (x = 1)) := by
  rcases h with rfl | rfl <;> rfl
theorem lp_x0 {b : Int32} {N : Nat} (h : b = nI N) : b ≤ nI N := by rw [h]; exact Int32.le_refl _
theorem lp_x1 {b : Int32} {i N : Nat} (h : b = nI N) (hi : i < N) (hN : N < 2 ^ 31) : ¬ b ≤ nI i := by rw [h]; exact nI_ge hi hN
theorem lp_pred (n : Nat) : nI (n + 1) - 1 = nI n := nI_pred n
theorem lp_dec (x : Int32) : x + Int32.ofInt (-1) = x - 1 := by
  rw [Int32.sub_eq_add_neg]; rfl
abbrev vcl : List vw_C := [(RX1, TX1, 12), (RX2, TX2, 38), (RX3, TX3, 15), (RX4, TX4, 2), (RX5, TX5, 10), (RJ2, TJ2, 3), (RJ19, TJ19, 4), (RJ16, TJ16, 1)]
/-- the classes' numbers, and the classes of int[], boolean[], long[], Object[] -/
abbrev en_T : Type := va_G × (ClassId × ClassId × ClassId × ClassId)
abbrev en_tys (E : en_T) : List (ClassId × FieldType) := [(E.2.1, .int), (E.2.2.1, .boolean), (E.2.2.2.1, .long), (E.2.2.2.2, .object "java/lang/Object")]
def en_K (E : en_T) (U : State) : Prop := va_K E.1 vcl (en_tys E) U
theorem en_K.moved {E : en_T} {u U : State} (hvm : u.vm.Alike U.vm) (h : en_K E u) : en_K E U := va_K.moved hvm h
section GL
variable {p : Program} {l : Launch} {e : Env} {R : Room} {s : State} {m : MethodId} {args : Array Value} {below : List Frame} {meth : Method} {c : Code} {H : Heap} {locs : List Loc} {cells slots : Nat} {Q : State → Prop}
variable {cc : ByteArray} {pc : Nat} {ls : Array Slot} {rest : List Value} {E : en_T} {A : Nat → Prop} {a : Nat} {L : List Nat} {f : Nat → va_E} {H0 : Heap}
theorem gl_at (h : a ∈ L) : ∃ k : Nat, (va_pl L f)[k]? = some (a, f a) := va_pl_get (X := []) h
theorem gl_set {A : Nat → Prop} {k : Nat} {e : va_E} (hD : va_D A (va_pl L f)) (h : a ∈ L) (hk : (va_pl L f)[k]? = some (a, f a)) : (va_pl L f).set k (a, e) = va_pl L (va_up f a e) := va_pl_set (X := []) hD h hk
theorem gl_get (hexec : p.tables.exec = Jvm.exec) (hb : c.code = cc) {own ref C : String} {T : u_T} {N ci index : Nat} (hts : ∀ w ∈ lw_all, w.before args s = true) (hin : ∀ w ∈ u_ws C T N, w ∈ lw_all) (hown : s.vm.findClass own = some m.cls) (hK : en_K E s) (hP : va_P E.1 vcl (va_pl L f) H) {fs : List Value} (ha : a ∈ L) (he : f a = .inr (ci, fs)) (hc : vcl[ci]? = some (C, T, N)) (k : Nat) (hk : k < N) (hlink : (Cond.fieldLink own index ref (T k).2.1 (T k).2.2.1).before args s = true) (hsame : ∀ x, s.fieldFound? (T k).1 (T k).2.1 (T k).2.2.1 = some x → s.fieldFound? ref (T k).2.1 (T k).2.2.1 = some x) {v : Value} (hv : fs[k]? = some v) (hdg : decode cc pc = .ok (.getfield index, 3))
    (kk : W p l e R s m args below meth c H locs cells slots Q (F0 m (pc + 3) ls (v :: rest))) : W p l e R s m args below meth c H locs cells slots Q (F0 m pc ls (.ref a :: rest)) := by
  obtain ⟨q0, hq⟩ := gl_at (f := f) ha
  rw [he] at hq
  exact va_get hexec hb hts hin hown hK hP q0 hq hc k hk hlink hsame hv hdg kk
theorem gl_put (hexec : p.tables.exec = Jvm.exec) (hb : c.code = cc) {own ref C : String} {T : u_T} {N ci index : Nat} (hts : ∀ w ∈ lw_all, w.before args s = true) (hin : ∀ w ∈ u_ws C T N, w ∈ lw_all) (ty0 : Nat → FieldType) (hty : ∀ k, k < N → parseFieldDescriptor (T k).2.2.1 = some (ty0 k)) (hnm : ∀ a, a < N → ∀ b, b < N → a ≠ b → (T a).2.1 ≠ (T b).2.1) (hown : s.vm.findClass own = some m.cls) (hK : en_K E s) (hP : va_P E.1 vcl (va_pl L f) H) (hD : va_D A (va_pl L f)) (hS : va_S A H0 H locs) {fs : List Value} (ha : a ∈ L) (he : f a = .inr (ci, fs)) (hc : vcl[ci]? = some (C, T, N)) (k : Nat) (hk : k < N) (hlink : (Cond.fieldLink own index ref (T k).2.1 (T k).2.2.1).before args s = true) (hsame : ∀ x, s.fieldFound? (T k).1 (T k).2.1 (T k).2.2.1 = some x → s.fieldFound? ref (T k).2.1 (T k).2.2.1 = some x) (hfin : (T k).2.2.2 = false) {ty : FieldType} {v : Value} (hd : parseFieldDescriptor (T k).2.2.1 = some ty) (hn : narrow ty v = v) (hfit : fits ty v = true) (hl : k < fs.length)
    (hdg : decode cc pc = .ok (.putfield index, 3)) (kk : ∀ (H1 : Heap) (locs1 : List Loc), va_P E.1 vcl (va_pl L (va_up f a (.inr (ci, fs.set k v)))) H1 → va_D A (va_pl L (va_up f a (.inr (ci, fs.set k v)))) → va_S A H0 H1 locs1 → W p l e R s m args below meth c H1 locs1 cells slots Q (F0 m (pc + 3) ls rest)) : W p l e R s m args below meth c H locs cells slots Q (F0 m pc ls (v :: .ref a :: rest)) := by
  obtain ⟨q0, hq⟩ := gl_at (f := f) ha
  have hs := gl_set (e := .inr (ci, fs.set k v)) hD ha hq
  rw [he] at hq
  refine va_put hexec hb hts hin ty0 hty hnm hown hK hP hD hS q0 hq hc k hk hlink hsame hfin hd hn hfit hl hdg (fun H1 locs1 h1 h2 h3 => ?_)
  rw [hs] at h1 h2
  exact kk H1 locs1 h1 h2 h3
theorem gl_putF (hexec : p.tables.exec = Jvm.exec) (hb : c.code = cc) {own ref C : String} {T : u_T} {N ci index : Nat} (hts : ∀ w ∈ lw_all, w.before args s = true) (hin : ∀ w ∈ u_ws C T N, w ∈ lw_all) (ty0 : Nat → FieldType) (hty : ∀ k, k < N → parseFieldDescriptor (T k).2.2.1 = some (ty0 k)) (hnm : ∀ a, a < N → ∀ b, b < N → a ≠ b → (T a).2.1 ≠ (T b).2.1) (hown : s.vm.findClass own = some m.cls) (hK : en_K E s) (hP : va_P E.1 vcl (va_pl L f) H) (hD : va_D A (va_pl L f)) (hS : va_S A H0 H locs) {fs : List Value} (ha : a ∈ L) (he : f a = .inr (ci, fs)) (hc : vcl[ci]? = some (C, T, N)) (k : Nat) (hk : k < N) (hlink : (Cond.fieldLink own index ref (T k).2.1 (T k).2.2.1).before args s = true) (hsame : ∀ x, s.fieldFound? (T k).1 (T k).2.1 (T k).2.2.1 = some x → s.fieldFound? ref (T k).2.1 (T k).2.2.1 = some x) (hfin : (T k).2.2.2 = true) (hin2 : meth.name = "<init>") (hdecl : (T k).1 = own) {ty : FieldType} {v : Value} (hd : parseFieldDescriptor (T k).2.2.1 = some ty) (hn : narrow ty v = v) (hfit : fits ty v = true) (hl : k < fs.length)
    (hdg : decode cc pc = .ok (.putfield index, 3)) (kk : ∀ (H1 : Heap) (locs1 : List Loc), va_P E.1 vcl (va_pl L (va_up f a (.inr (ci, fs.set k v)))) H1 → va_D A (va_pl L (va_up f a (.inr (ci, fs.set k v)))) → va_S A H0 H1 locs1 → W p l e R s m args below meth c H1 locs1 cells slots Q (F0 m (pc + 3) ls rest)) : W p l e R s m args below meth c H locs cells slots Q (F0 m pc ls (v :: .ref a :: rest)) := by
  obtain ⟨q0, hq⟩ := gl_at (f := f) ha
  have hs := gl_set (e := .inr (ci, fs.set k v)) hD ha hq
  rw [he] at hq
  refine va_putF hexec hb hts hin ty0 hty hnm hown hK hP hD hS q0 hq hc k hk hlink hsame hfin hin2 hdecl hd hn hfit hl hdg (fun H1 locs1 h1 h2 h3 => ?_)
  rw [hs] at h1 h2
  exact kk H1 locs1 h1 h2 h3
theorem gl_iald (hexec : p.tables.exec = Jvm.exec) (hb : c.code = cc) (hK : en_K E s) (hP : va_P E.1 vcl (va_pl L f) H) {n : Nat} {g : Nat → Int32} (ha : a ∈ L) (he : f a = .inl (E.2.1, n, .inl g)) {i : Int32} (hin : vp_in i n) (hdg : decode cc pc = .ok (.iaload, 1))
    (kk : W p l e R s m args below meth c H locs cells slots Q (F0 m (pc + 1) ls (.int (g i.toNatClampNeg) :: rest))) : W p l e R s m args below meth c H locs cells slots Q (F0 m pc ls (.int i :: .ref a :: rest)) := by
  obtain ⟨q0, hq⟩ := gl_at (f := f) ha
  rw [he] at hq
  exact va_iald hexec hb hK hP q0 0 hq rfl hin hdg kk
theorem gl_zald (hexec : p.tables.exec = Jvm.exec) (hb : c.code = cc) (hK : en_K E s) (hP : va_P E.1 vcl (va_pl L f) H) {n : Nat} {g : Nat → Int32} (ha : a ∈ L) (he : f a = .inl (E.2.2.1, n, .inl g)) {i : Int32} (hin : vp_in i n) (hdg : decode cc pc = .ok (.baload, 1))
    (kk : W p l e R s m args below meth c H locs cells slots Q (F0 m (pc + 1) ls (.int (g i.toNatClampNeg) :: rest))) : W p l e R s m args below meth c H locs cells slots Q (F0 m pc ls (.int i :: .ref a :: rest)) := by
  obtain ⟨q0, hq⟩ := gl_at (f := f) ha
  rw [he] at hq
  exact va_zald hexec hb hK hP q0 1 hq rfl hin hdg kk
theorem gl_iast (hexec : p.tables.exec = Jvm.exec) (hb : c.code = cc) (hK : en_K E s) (hP : va_P E.1 vcl (va_pl L f) H) (hD : va_D A (va_pl L f)) (hS : va_S A H0 H locs) {n : Nat} {g : Nat → Int32} (ha : a ∈ L) (he : f a = .inl (E.2.1, n, .inl g)) {i x : Int32} (hin : vp_in i n) (hdg : decode cc pc = .ok (.iastore, 1))
    (kk : ∀ (H1 : Heap) (locs1 : List Loc), va_P E.1 vcl (va_pl L (va_up f a (.inl (E.2.1, n, .inl (upd g i.toNatClampNeg x))))) H1 → va_D A (va_pl L (va_up f a (.inl (E.2.1, n, .inl (upd g i.toNatClampNeg x))))) → va_S A H0 H1 locs1 → W p l e R s m args below meth c H1 locs1 cells slots Q (F0 m (pc + 1) ls rest)) : W p l e R s m args below meth c H locs cells slots Q (F0 m pc ls (.int x :: .int i :: .ref a :: rest)) := by
  obtain ⟨q0, hq⟩ := gl_at (f := f) ha
  have hs := gl_set (e := .inl (E.2.1, n, .inl (upd g i.toNatClampNeg x))) hD ha hq
  rw [he] at hq
  refine va_iast hexec hb hK hP hD hS q0 0 hq rfl hin hdg (fun H1 locs1 h1 h2 h3 => ?_)
  rw [hs] at h1 h2
  exact kk H1 locs1 h1 h2 h3
theorem gl_zast (hexec : p.tables.exec = Jvm.exec) (hb : c.code = cc) (hK : en_K E s) (hP : va_P E.1 vcl (va_pl L f) H) (hD : va_D A (va_pl L f)) (hS : va_S A H0 H locs) {n : Nat} {g : Nat → Int32} (ha : a ∈ L) (he : f a = .inl (E.2.2.1, n, .inl g)) {i x : Int32} (hx01 : x = 0 ∨ x = 1) (hin : vp_in i n) (hdg : decode cc pc = .ok (.bastore, 1))
    (kk : ∀ (H1 : Heap) (locs1 : List Loc), va_P E.1 vcl (va_pl L (va_up f a (.inl (E.2.2.1, n, .inl (upd g i.toNatClampNeg x))))) H1 → va_D A (va_pl L (va_up f a (.inl (E.2.2.1, n, .inl (upd g i.toNatClampNeg x))))) → va_S A H0 H1 locs1 → W p l e R s m args below meth c H1 locs1 cells slots Q (F0 m (pc + 1) ls rest)) : W p l e R s m args below meth c H locs cells slots Q (F0 m pc ls (.int x :: .int i :: .ref a :: rest)) := by
  obtain ⟨q0, hq⟩ := gl_at (f := f) ha
  have hs := gl_set (e := .inl (E.2.2.1, n, .inl (upd g i.toNatClampNeg x))) hD ha hq
  rw [he] at hq
  refine va_zast hexec hb hK hP hD hS q0 1 hq rfl hin hdg (fun H1 locs1 h1 h2 h3 => ?_)
  rw [gs_vnar hx01, hs] at h1 h2
  exact kk H1 locs1 h1 h2 h3
end GL
