/-! BASE: the heap as a map from addresses to known cells; whole numbers as Int; rows over both -/
set_option maxRecDepth 100000
/-- an int of the machine, by a whole number -/
def iI (z : Int) : Int32 := Int32.ofInt z
theorem iI_add (a b : Int) : iI a + iI b = iI (a + b) := (Int32.ofInt_add a b).symm
theorem iI_sub (a b : Int) : iI a - iI b = iI (a - b) := (Int32.ofInt_sub a b).symm
theorem iI_mul (a b : Int) : iI a * iI b = iI (a * b) := (Int32.ofInt_mul a b).symm
theorem iI_neg (a : Int) : -iI a = iI (-a) := (Int32.ofInt_neg a).symm
/-- in the range of an int -/
def iR (z : Int) : Prop := -2147483648 ≤ z ∧ z < 2147483648
theorem iI_toInt {z : Int} (h : iR z) : (iI z).toInt = z := Int32.toInt_ofInt_of_le (by have := h.1; omega) (by have := h.2; omega)
theorem iI_of (x : Int32) : x = iI x.toInt := (Int32.ofInt_toInt x).symm
theorem iR_of (x : Int32) : iR x.toInt := ⟨by have := Int32.le_toInt x; omega, by have := Int32.toInt_lt x; omega⟩
theorem iI_ex (x : Int32) : ∃ z : Int, x = iI z ∧ -2147483648 ≤ z ∧ z < 2147483648 := ⟨x.toInt, iI_of x, (iR_of x).1, (iR_of x).2⟩
theorem iI_lt {a b : Int} (ha : iR a) (hb : iR b) : iI a < iI b ↔ a < b := by rw [Int32.lt_iff_toInt_lt, iI_toInt ha, iI_toInt hb]
theorem iI_le {a b : Int} (ha : iR a) (hb : iR b) : iI a ≤ iI b ↔ a ≤ b := by rw [Int32.le_iff_toInt_le, iI_toInt ha, iI_toInt hb]
theorem iI_eq {a b : Int} (ha : iR a) (hb : iR b) : iI a = iI b ↔ a = b := by rw [← Int32.toInt_inj, iI_toInt ha, iI_toInt hb]
theorem iI_0 : (0 : Int32) = iI 0 := by decide
theorem iI_nat (n : Nat) : nI n = iI n := (Int32.ofInt_eq_ofNat).symm
theorem iI_clamp {z : Int} (h : iR z) : (iI z).toNatClampNeg = z.toNat := Int32.toNatClampNeg_ofInt_of_le (by have := h.1; omega) (by have := h.2; omega)
theorem iI_in {z : Int} {n : Nat} (h0 : 0 ≤ z) (h1 : z < n) (hn : n < 2147483648) : vp_in (iI z) n := by
  have hr : iR z := ⟨by omega, by omega⟩
  rw [vp_in_iff, iI_toInt hr]
  exact ⟨h0, h1⟩
theorem iI_nar (z : Int) : narrow .int (.int (iI z)) = .int (iI z) := rfl
theorem iI_bit {z : Int} (h : z = 0 ∨ z = 1) : narrow .boolean (.int (iI z)) = .int (iI z) := by rcases h with rfl | rfl <;> decide
theorem iI_fitb {z : Int} (h : z = 0 ∨ z = 1) : fits .boolean (.int (iI z)) = true := by rcases h with rfl | rfl <;> decide
theorem iI_narb {z : Int} (h : z = 0 ∨ z = 1) : vp_nar .boolean (iI z) = iI z := by rcases h with rfl | rfl <;> decide
/-- a yes or no as a number -/
def tb (b : Bool) : Int := if b then 1 else 0
theorem tb01 (b : Bool) : tb b = 0 ∨ tb b = 1 := by cases b <;> simp [tb]
theorem tb_t {P : Prop} [Decidable P] (h : P) : tb (decide P) = 1 := by simp [tb, h]
theorem tb_f {P : Prop} [Decidable P] (h : ¬ P) : tb (decide P) = 0 := by simp [tb, h]
section TI
variable {p : Program} {l : Launch} {e : Env} {R : Room} {s : State} {m : MethodId} {args : Array Value} {below : List Frame} {meth : Method} {c : Code} {H : Heap} {locs : List Loc} {cells slots : Nat} {Q : State → Prop}
variable {cc : ByteArray} {pc : Nat} {ls : Array Slot} {rest : List Value}
theorem ti_iadd (hx : p.tables.exec = Jvm.exec) (hb : c.code = cc) {a b : Int} (hdg : decode cc pc = .ok (.iadd, 1)) (k : W p l e R s m args below meth c H locs cells slots Q (F0 m (pc + 1) ls (.int (iI (a + b)) :: rest))) : W p l e R s m args below meth c H locs cells slots Q (F0 m pc ls (.int (iI b) :: .int (iI a) :: rest)) :=
  lv_iadd hx hb hdg (by rw [iI_add]; exact k)
theorem ti_isub (hx : p.tables.exec = Jvm.exec) (hb : c.code = cc) {a b : Int} (hdg : decode cc pc = .ok (.isub, 1)) (k : W p l e R s m args below meth c H locs cells slots Q (F0 m (pc + 1) ls (.int (iI (a - b)) :: rest))) : W p l e R s m args below meth c H locs cells slots Q (F0 m pc ls (.int (iI b) :: .int (iI a) :: rest)) :=
  lv_isub hx hb hdg (by rw [iI_sub]; exact k)
theorem ti_imul (hx : p.tables.exec = Jvm.exec) (hb : c.code = cc) {a b : Int} (hdg : decode cc pc = .ok (.imul, 1)) (k : W p l e R s m args below meth c H locs cells slots Q (F0 m (pc + 1) ls (.int (iI (a * b)) :: rest))) : W p l e R s m args below meth c H locs cells slots Q (F0 m pc ls (.int (iI b) :: .int (iI a) :: rest)) :=
  lv_imul hx hb hdg (by rw [iI_mul]; exact k)
/-- a number on the stack by another name of it -/
theorem ti_top {a b : Int} (h : a = b) (k : W p l e R s m args below meth c H locs cells slots Q (F0 m pc ls (.int (iI b) :: rest))) : W p l e R s m args below meth c H locs cells slots Q (F0 m pc ls (.int (iI a) :: rest)) := h ▸ k
theorem ti_const (hx : p.tables.exec = Jvm.exec) (hb : c.code = cc) {n : Int} (hdg : decode cc pc = .ok (.iconst n, 1)) (k : W p l e R s m args below meth c H locs cells slots Q (F0 m (pc + 1) ls (.int (iI n) :: rest))) : W p l e R s m args below meth c H locs cells slots Q (F0 m pc ls rest) := lv_iconst hx hb hdg rfl k
theorem ti_bipush (hx : p.tables.exec = Jvm.exec) (hb : c.code = cc) {n : Int} (hdg : decode cc pc = .ok (.bipush n, 2)) (hn : (Int8.ofInt n).toInt32 = iI n) (k : W p l e R s m args below meth c H locs cells slots Q (F0 m (pc + 2) ls (.int (iI n) :: rest))) : W p l e R s m args below meth c H locs cells slots Q (F0 m pc ls rest) := lv_bipush hx hb hdg hn k
theorem ti_sipush (hx : p.tables.exec = Jvm.exec) (hb : c.code = cc) {n : Int} (hdg : decode cc pc = .ok (.sipush n, 3)) (hn : (Int16.ofInt n).toInt32 = iI n) (k : W p l e R s m args below meth c H locs cells slots Q (F0 m (pc + 3) ls (.int (iI n) :: rest))) : W p l e R s m args below meth c H locs cells slots Q (F0 m pc ls rest) := lv_sipush hx hb hdg hn k
theorem ti_iinc (hx : p.tables.exec = Jvm.exec) (hb : c.code = cc) {i nL k : Nat} {n a : Int} {lv lv' : List (Nat × Value)} (hdg : decode cc pc = .ok (.iinc i n, 3)) (h : lv_has ls nL lv) (hk : lv[k]? = some (i, .int (iI a))) (hn : i < nL) (hl : (i, Value.int (iI (a + n))) :: lv.filter (fun q => !(q.1 == i) && !(q.1 + 1 == i && q.2.category == 2)) = lv')
    (kk : ∀ ls' : Array Slot, lv_has ls' nL lv' → W p l e R s m args below meth c H locs cells slots Q (F0 m (pc + 3) ls' rest)) : W p l e R s m args below meth c H locs cells slots Q (F0 m pc ls rest) := lv_iinc hx hb hdg h hk (iI_add a n) hn hl kk
theorem ti_icmp_eq (hx : p.tables.exec = Jvm.exec) (hb : c.code = cc) {a b : Int} {off : Int} {tgt : Nat} (hdg : decode cc pc = .ok (.if_icmp .eq off, 3)) (ht : (pc : Int) + off = (tgt : Int)) (ha : iR a) (hb' : iR b) (kt : a = b → W p l e R s m args below meth c H locs cells slots Q (F0 m tgt ls rest)) (kf : a ≠ b → W p l e R s m args below meth c H locs cells slots Q (F0 m (pc + 3) ls rest)) : W p l e R s m args below meth c H locs cells slots Q (F0 m pc ls (.int (iI b) :: .int (iI a) :: rest)) :=
  lv_icmp_eq hx hb hdg ht (fun h => kt ((iI_eq ha hb').mp h)) (fun h => kf (fun q => h ((iI_eq ha hb').mpr q)))
theorem ti_icmp_ne (hx : p.tables.exec = Jvm.exec) (hb : c.code = cc) {a b : Int} {off : Int} {tgt : Nat} (hdg : decode cc pc = .ok (.if_icmp .ne off, 3)) (ht : (pc : Int) + off = (tgt : Int)) (ha : iR a) (hb' : iR b) (kt : a ≠ b → W p l e R s m args below meth c H locs cells slots Q (F0 m tgt ls rest)) (kf : a = b → W p l e R s m args below meth c H locs cells slots Q (F0 m (pc + 3) ls rest)) : W p l e R s m args below meth c H locs cells slots Q (F0 m pc ls (.int (iI b) :: .int (iI a) :: rest)) :=
  lv_icmp_ne hx hb hdg ht (fun h => kt (fun q => h ((iI_eq ha hb').mpr q))) (fun h => kf ((iI_eq ha hb').mp h))
theorem ti_icmp_lt (hx : p.tables.exec = Jvm.exec) (hb : c.code = cc) {a b : Int} {off : Int} {tgt : Nat} (hdg : decode cc pc = .ok (.if_icmp .lt off, 3)) (ht : (pc : Int) + off = (tgt : Int)) (ha : iR a) (hb' : iR b) (kt : a < b → W p l e R s m args below meth c H locs cells slots Q (F0 m tgt ls rest)) (kf : b ≤ a → W p l e R s m args below meth c H locs cells slots Q (F0 m (pc + 3) ls rest)) : W p l e R s m args below meth c H locs cells slots Q (F0 m pc ls (.int (iI b) :: .int (iI a) :: rest)) :=
  lv_icmp_lt hx hb hdg ht (fun h => kt ((iI_lt ha hb').mp h)) (fun h => kf (Int.not_lt.mp fun q => h ((iI_lt ha hb').mpr q)))
theorem ti_icmp_ge (hx : p.tables.exec = Jvm.exec) (hb : c.code = cc) {a b : Int} {off : Int} {tgt : Nat} (hdg : decode cc pc = .ok (.if_icmp .ge off, 3)) (ht : (pc : Int) + off = (tgt : Int)) (ha : iR a) (hb' : iR b) (kt : b ≤ a → W p l e R s m args below meth c H locs cells slots Q (F0 m tgt ls rest)) (kf : a < b → W p l e R s m args below meth c H locs cells slots Q (F0 m (pc + 3) ls rest)) : W p l e R s m args below meth c H locs cells slots Q (F0 m pc ls (.int (iI b) :: .int (iI a) :: rest)) :=
  lv_icmp_ge hx hb hdg ht (fun h => kt ((iI_le hb' ha).mp h)) (fun h => kf (Int.not_le.mp fun q => h ((iI_le hb' ha).mpr q)))
theorem ti_icmp_gt (hx : p.tables.exec = Jvm.exec) (hb : c.code = cc) {a b : Int} {off : Int} {tgt : Nat} (hdg : decode cc pc = .ok (.if_icmp .gt off, 3)) (ht : (pc : Int) + off = (tgt : Int)) (ha : iR a) (hb' : iR b) (kt : b < a → W p l e R s m args below meth c H locs cells slots Q (F0 m tgt ls rest)) (kf : a ≤ b → W p l e R s m args below meth c H locs cells slots Q (F0 m (pc + 3) ls rest)) : W p l e R s m args below meth c H locs cells slots Q (F0 m pc ls (.int (iI b) :: .int (iI a) :: rest)) :=
  lv_icmp_gt hx hb hdg ht (fun h => kt ((iI_lt hb' ha).mp h)) (fun h => kf (Int.not_lt.mp fun q => h ((iI_lt hb' ha).mpr q)))
theorem ti_icmp_le (hx : p.tables.exec = Jvm.exec) (hb : c.code = cc) {a b : Int} {off : Int} {tgt : Nat} (hdg : decode cc pc = .ok (.if_icmp .le off, 3)) (ht : (pc : Int) + off = (tgt : Int)) (ha : iR a) (hb' : iR b) (kt : a ≤ b → W p l e R s m args below meth c H locs cells slots Q (F0 m tgt ls rest)) (kf : b < a → W p l e R s m args below meth c H locs cells slots Q (F0 m (pc + 3) ls rest)) : W p l e R s m args below meth c H locs cells slots Q (F0 m pc ls (.int (iI b) :: .int (iI a) :: rest)) :=
  lv_icmp_le hx hb hdg ht (fun h => kt ((iI_le ha hb').mp h)) (fun h => kf (Int.not_le.mp fun q => h ((iI_le ha hb').mpr q)))
theorem iR_0 : iR 0 := ⟨by decide, by decide⟩
theorem ti_if_eq (hx : p.tables.exec = Jvm.exec) (hb : c.code = cc) {a : Int} {off : Int} {tgt : Nat} (hdg : decode cc pc = .ok (.ifCond .eq off, 3)) (ht : (pc : Int) + off = (tgt : Int)) (ha : iR a) (kt : a = 0 → W p l e R s m args below meth c H locs cells slots Q (F0 m tgt ls rest)) (kf : a ≠ 0 → W p l e R s m args below meth c H locs cells slots Q (F0 m (pc + 3) ls rest)) : W p l e R s m args below meth c H locs cells slots Q (F0 m pc ls (.int (iI a) :: rest)) :=
  lv_if_eq hx hb hdg ht (fun h => kt ((iI_eq ha iR_0).mp h)) (fun h => kf (fun q => h ((iI_eq ha iR_0).mpr q)))
theorem ti_if_ne (hx : p.tables.exec = Jvm.exec) (hb : c.code = cc) {a : Int} {off : Int} {tgt : Nat} (hdg : decode cc pc = .ok (.ifCond .ne off, 3)) (ht : (pc : Int) + off = (tgt : Int)) (ha : iR a) (kt : a ≠ 0 → W p l e R s m args below meth c H locs cells slots Q (F0 m tgt ls rest)) (kf : a = 0 → W p l e R s m args below meth c H locs cells slots Q (F0 m (pc + 3) ls rest)) : W p l e R s m args below meth c H locs cells slots Q (F0 m pc ls (.int (iI a) :: rest)) :=
  lv_if_ne hx hb hdg ht (fun h => kt (fun q => h ((iI_eq ha iR_0).mpr q))) (fun h => kf ((iI_eq ha iR_0).mp h))
theorem ti_if_lt (hx : p.tables.exec = Jvm.exec) (hb : c.code = cc) {a : Int} {off : Int} {tgt : Nat} (hdg : decode cc pc = .ok (.ifCond .lt off, 3)) (ht : (pc : Int) + off = (tgt : Int)) (ha : iR a) (kt : a < 0 → W p l e R s m args below meth c H locs cells slots Q (F0 m tgt ls rest)) (kf : 0 ≤ a → W p l e R s m args below meth c H locs cells slots Q (F0 m (pc + 3) ls rest)) : W p l e R s m args below meth c H locs cells slots Q (F0 m pc ls (.int (iI a) :: rest)) :=
  lv_if_lt hx hb hdg ht (fun h => kt ((iI_lt ha iR_0).mp h)) (fun h => kf (Int.not_lt.mp fun q => h ((iI_lt ha iR_0).mpr q)))
theorem ti_if_ge (hx : p.tables.exec = Jvm.exec) (hb : c.code = cc) {a : Int} {off : Int} {tgt : Nat} (hdg : decode cc pc = .ok (.ifCond .ge off, 3)) (ht : (pc : Int) + off = (tgt : Int)) (ha : iR a) (kt : 0 ≤ a → W p l e R s m args below meth c H locs cells slots Q (F0 m tgt ls rest)) (kf : a < 0 → W p l e R s m args below meth c H locs cells slots Q (F0 m (pc + 3) ls rest)) : W p l e R s m args below meth c H locs cells slots Q (F0 m pc ls (.int (iI a) :: rest)) :=
  lv_if_ge hx hb hdg ht (fun h => kt ((iI_le iR_0 ha).mp h)) (fun h => kf (Int.not_le.mp fun q => h ((iI_le iR_0 ha).mpr q)))
theorem ti_if_gt (hx : p.tables.exec = Jvm.exec) (hb : c.code = cc) {a : Int} {off : Int} {tgt : Nat} (hdg : decode cc pc = .ok (.ifCond .gt off, 3)) (ht : (pc : Int) + off = (tgt : Int)) (ha : iR a) (kt : 0 < a → W p l e R s m args below meth c H locs cells slots Q (F0 m tgt ls rest)) (kf : a ≤ 0 → W p l e R s m args below meth c H locs cells slots Q (F0 m (pc + 3) ls rest)) : W p l e R s m args below meth c H locs cells slots Q (F0 m pc ls (.int (iI a) :: rest)) :=
  lv_if_gt hx hb hdg ht (fun h => kt ((iI_lt iR_0 ha).mp h)) (fun h => kf (Int.not_lt.mp fun q => h ((iI_lt iR_0 ha).mpr q)))
theorem ti_if_le (hx : p.tables.exec = Jvm.exec) (hb : c.code = cc) {a : Int} {off : Int} {tgt : Nat} (hdg : decode cc pc = .ok (.ifCond .le off, 3)) (ht : (pc : Int) + off = (tgt : Int)) (ha : iR a) (kt : a ≤ 0 → W p l e R s m args below meth c H locs cells slots Q (F0 m tgt ls rest)) (kf : 0 < a → W p l e R s m args below meth c H locs cells slots Q (F0 m (pc + 3) ls rest)) : W p l e R s m args below meth c H locs cells slots Q (F0 m pc ls (.int (iI a) :: rest)) :=
  lv_if_le hx hb hdg ht (fun h => kt ((iI_le ha iR_0).mp h)) (fun h => kf (Int.not_le.mp fun q => h ((iI_le ha iR_0).mpr q)))
end TI
/-! ===== the known cells ===== -/
abbrev tl_H : Type := Nat → Option va_E
/-- the classes; the address from which on cells may be written; the array classes (int, boolean, long, Object); known old cells: 0 the empty list's array, 1 TreeSet's PRESENT, 2 the Integers' cache, 3 + k the Integer k - 128 -/
abbrev tl_X : Type := va_G × Nat × (Nat → ClassId) × (Nat → Nat)
def tl_cl : List vw_C := [(RX1, TX1, 6), (RX3, TX3, 5), (RX4, TX4, 2), (RX5, TX5, 3), (RX6, TX6, 6), (RX7, TX7, 3), (RX8, TX8, 4), (RX9, TX9, 3), (RX2, TX2, 15), (RJ2, TJ2, 3), (RJ18, TJ18, 4), (RJ4, TJ4, 4), (RJ36, TJ36, 3), (RJ21, TJ21, 9), (RJ23, TJ23, 1), (RJ25, TJ25, 1), (RJ30, TJ30, 6), (RJ31, TJ31, 1), (RJ33, TJ33, 4)]
abbrev tl_tys (X : tl_X) : List (ClassId × FieldType) := [(X.2.2.1 0, .int), (X.2.2.1 1, .boolean), (X.2.2.1 2, .long), (X.2.2.1 3, .object "java/lang/Object")]
abbrev tl_A (X : tl_X) : Nat → Prop := fun q => X.2.1 ≤ q
/-- cells: an object; an array of ints, of references -/
abbrev oO (ci : Nat) (fs : List Value) : va_E := .inr (ci, fs)
abbrev oI (cA : ClassId) (n : Nat) (f : Nat → Int32) : va_E := .inl (cA, n, .inl f)
abbrev oL (cA : ClassId) (n : Nat) (f : Nat → Int64) : va_E := .inl (cA, n, .inr (.inl f))
abbrev oQ (cA : ClassId) (n : Nat) (f : Nat → Option Nat) : va_E := .inl (cA, n, .inr (.inr (.inr (.inr f))))
/-- cells that are only read: the empty array, Integers -/
def tl_ro (e : va_E) : Prop := match e with
  | .inl x => x.2.1 = 0
  | .inr o => o.1 = 15
/-- the old cells -/
def tl_fix (X : tl_X) (σ : tl_H) : Prop := (∀ j : Nat, j < 259 → X.2.2.2 j < X.2.1) ∧ σ (X.2.2.2 0) = some (oQ (X.2.2.1 3) 0 (fun _ => none)) ∧ ∀ k : Nat, k < 256 → σ (X.2.2.2 (3 + k)) = some (oO 15 [.int (iI ((k : Int) - 128))])
def tl_M (X : tl_X) (σ : tl_H) (H : Heap) : Prop := X.2.1 ≤ H.size ∧ tl_fix X σ ∧ ∀ (a : Nat) (e : va_E), σ a = some e → va_at X.1 tl_cl (a, e) H ∧ (X.2.1 ≤ a ∨ tl_ro e)
/-- the evolving world of a method's walk -/
def tl_S (X : tl_X) (s : State) (σ : tl_H) (H : Heap) (locs : List Loc) : Prop := tl_M X σ H ∧ va_S (tl_A X) s.heap H locs ∧ X.2.1 ≤ s.heap.size
theorem up_s {α : Type} {f : Nat → α} {k : Nat} {v : α} : va_up f k v k = v := by simp [va_up]
theorem up_n {α : Type} {f : Nat → α} {k j : Nat} {v : α} (h : j ≠ k) : va_up f k v j = f j := by simp [va_up, h]
theorem up_old {σ : tl_H} {q b : Nat} {v : Option va_E} {e : va_E} (hq : σ q = none) (h : σ b = some e) : va_up σ q v b = some e := by
  rw [up_n]
  · exact h
  · intro z
    rw [z, hq] at h
    cases h
theorem up_sub {σ : tl_H} {q : Nat} {v : Option va_E} (hq : σ q = none) : ∀ a e, σ a = some e → va_up σ q v a = some e := fun _ _ h => up_old hq h
theorem up_uu {α : Type} (f : Nat → α) (k : Nat) (v w : α) : va_up (va_up f k v) k w = va_up f k w := bx_uu f k v w
theorem tl_fix.up {X : tl_X} {σ : tl_H} (h : tl_fix X σ) {a : Nat} (hw : X.2.1 ≤ a) (v : Option va_E) : tl_fix X (va_up σ a v) := by
  refine ⟨h.1, ?_, fun k hk => ?_⟩
  · rw [up_n (by have := h.1 0 (by decide); omega)]
    exact h.2.1
  · rw [up_n (by have := h.1 (3 + k) (by omega); omega)]
    exact h.2.2 k hk
theorem tl_M.lt {X : tl_X} {σ : tl_H} {H : Heap} (h : tl_M X σ H) {a : Nat} {e : va_E} (ha : σ a = some e) : a < H.size := ((h.2.2 a e ha).1).lt
theorem tl_M.kept {X : tl_X} {σ : tl_H} {H H1 : Heap} (h : tl_M X σ H) (hz : H.size ≤ H1.size) (hq : ∀ q : Nat, q < H.size → H1[q]? = H[q]?) : tl_M X σ H1 :=
  ⟨Nat.le_trans h.1 hz, h.2.1, fun a e ha => ⟨(h.2.2 a e ha).1.kept (hq a (h.lt ha)), (h.2.2 a e ha).2⟩⟩
theorem tl_M.set {X : tl_X} {σ : tl_H} {H H1 : Heap} {a : Nat} {e : va_E} (h : tl_M X σ H) (hz : H1.size = H.size) (he : va_at X.1 tl_cl (a, e) H1) (hw : X.2.1 ≤ a) (oq : ∀ q : Nat, q ≠ a → H1[q]? = H[q]?) : tl_M X (va_up σ a (some e)) H1 := by
  refine ⟨by rw [hz]; exact h.1, h.2.1.up hw _, fun b f hb => ?_⟩
  by_cases hba : b = a
  · subst hba
    rw [up_s] at hb
    cases hb
    exact ⟨he, Or.inl hw⟩
  · rw [up_n hba] at hb
    exact ⟨(h.2.2 b f hb).1.kept (oq b hba), (h.2.2 b f hb).2⟩
theorem tl_M.new {X : tl_X} {σ : tl_H} {H H1 : Heap} {e : va_E} (h : tl_M X σ H) (hz : H1.size = H.size + 1) (he : va_at X.1 tl_cl (H.size, e) H1) (oq : ∀ q : Nat, q < H.size → H1[q]? = H[q]?) : tl_M X (va_up σ H.size (some e)) H1 ∧ σ H.size = none ∧ X.2.1 ≤ H.size := by
  refine ⟨⟨by rw [hz]; exact Nat.le_succ_of_le h.1, h.2.1.up h.1 _, fun b f hb => ?_⟩, ?_, h.1⟩
  · by_cases hba : b = H.size
    · subst hba
      rw [up_s] at hb
      cases hb
      exact ⟨he, Or.inl h.1⟩
    · rw [up_n hba] at hb
      exact ⟨(h.2.2 b f hb).1.kept (oq b (h.lt hb)), (h.2.2 b f hb).2⟩
  · cases hs : σ H.size with
    | none => rfl
    | some f => exact absurd (h.lt hs) (Nat.lt_irrefl _)
/-- fewer cells known -/
theorem tl_M.sub {X : tl_X} {σ σ' : tl_H} {H : Heap} (h : tl_M X σ' H) (hf : tl_fix X σ) (hs : ∀ a e, σ a = some e → σ' a = some e) : tl_M X σ H := ⟨h.1, hf, fun a e ha => h.2.2 a e (hs a e ha)⟩
theorem tl_S.sub {X : tl_X} {s : State} {σ σ' : tl_H} {H : Heap} {locs : List Loc} (h : tl_S X s σ' H locs) (hf : tl_fix X σ) (hs : ∀ a e, σ a = some e → σ' a = some e) : tl_S X s σ H locs := ⟨h.1.sub hf hs, h.2⟩
theorem tl_S.fix {X : tl_X} {s : State} {σ : tl_H} {H : Heap} {locs : List Loc} (h : tl_S X s σ H locs) : tl_fix X σ := h.1.2.1
theorem tl_P1 {X : tl_X} {s : State} {σ : tl_H} {H : Heap} {locs : List Loc} {a : Nat} {e : va_E} (h : tl_S X s σ H locs) (he : σ a = some e) : va_P X.1 tl_cl [(a, e)] H := by
  intro k q hk
  have hz : k < 1 := (List.getElem?_eq_some_iff.mp hk).1
  rw [show k = 0 by omega] at hk
  cases hk
  exact (h.1.2.2 a e he).1
theorem tl_S.wr {X : tl_X} {s : State} {σ : tl_H} {H : Heap} {locs : List Loc} {a : Nat} {e : va_E} (h : tl_S X s σ H locs) (he : σ a = some e) (hn : ¬ tl_ro e) : X.2.1 ≤ a := (h.1.2.2 a e he).2.resolve_right hn
theorem tl_S.put {X : tl_X} {s : State} {σ : tl_H} {H H1 : Heap} {locs : List Loc} {a : Nat} (k : Nat) {e : va_E} (h : tl_S X s σ H locs) (z : H1.size = H.size) (he : va_at X.1 tl_cl (a, e) H1) (hw : X.2.1 ≤ a) (oq : ∀ q : Nat, q ≠ a → H1[q]? = H[q]?) : tl_S X s (va_up σ a (some e)) H1 (locs ++ [⟨a, k⟩]) :=
  ⟨h.1.set z he hw oq, h.2.1.put z oq hw, h.2.2⟩
theorem tl_S.new {X : tl_X} {s : State} {σ : tl_H} {H H1 : Heap} {locs : List Loc} {e : va_E} (h : tl_S X s σ H locs) (hz : H1.size = H.size + 1) (he : va_at X.1 tl_cl (H.size, e) H1) (oq : ∀ q : Nat, q < H.size → H1[q]? = H[q]?) : tl_S X s (va_up σ H.size (some e)) H1 locs ∧ σ H.size = none ∧ X.2.1 ≤ H.size := by
  obtain ⟨a, b, c⟩ := h.1.new hz he oq
  exact ⟨⟨a, ⟨Nat.le_trans h.2.1.1 (by omega), fun q h1 h2 => (oq q (Nat.lt_of_lt_of_le h1 h.2.1.1)).trans (h.2.1.2.1 q h1 h2), h.2.1.2.2⟩, h.2.2⟩, b, c⟩
/-! ===== what a state's tables say, all through a run ===== -/
def tl_casts : List (String × String) := [(RX3, "java/lang/Object"), (RX5, "java/lang/Object"), (RX6, "java/lang/Object"), (RX8, "java/lang/Object"), (RX9, "java/lang/Object"), (RJ25, "java/lang/Comparable"), (RX4, "java/lang/Object"), ("[Ljava/lang/Object;", "java/lang/Object"), (RJ21, "java/util/NavigableMap"), (RJ33, "java/util/Iterator"), (RJ18, "java/util/Iterator"), (RX7, "java/util/Iterator"), (RJ31, "java/util/NavigableSet")]
/-- calls by an interface: the receiver's class, the interface's method, the class's -/
def tl_faces : List (String × MethodName × MethodName) := [
  (RJ18, ⟨"java/util/Iterator", "hasNext", "()Z"⟩, yJ18_hasNext), (RJ18, ⟨"java/util/Iterator", "next", "()Ljava/lang/Object;"⟩, yJ18_next),
  (RX7, ⟨"java/util/Iterator", "hasNext", "()Z"⟩, yX7_hasNext), (RX7, ⟨"java/util/Iterator", "next", "()Ljava/lang/Object;"⟩, ⟨RX7, "next", "()Ljava/lang/Object;"⟩),
  (RJ33, ⟨"java/util/Iterator", "hasNext", "()Z"⟩, yJ32_hasNext), (RJ33, ⟨"java/util/Iterator", "next", "()Ljava/lang/Object;"⟩, yJ33_next),
  (RJ25, ⟨"java/lang/Comparable", "compareTo", "(Ljava/lang/Object;)I"⟩, ⟨RJ25, "compareTo", "(Ljava/lang/Object;)I"⟩),
  (RJ21, ⟨"java/util/NavigableMap", "navigableKeySet", "()Ljava/util/NavigableSet;"⟩, yJ21_navigableKeySet),
  (RJ31, ⟨"java/util/NavigableSet", "iterator", "()Ljava/util/Iterator;"⟩, yJ31_iterator)]
def tl_nests : List (String × Nat × String × String × String × String) := [("TimberList", 115, "TimberList$Board", "defects", "Ljava/util/ArrayList;", "TimberList"), ("TimberList", 168, "TimberList$Part", "left", "I", "TimberList"), ("TimberList", 175, "TimberList$Part", "canBeJoined", "Z", "TimberList"), ("java/util/ArrayList$Itr", 28, "java/util/ArrayList", "size", "I", "java/util/ArrayList"), ("java/util/TreeMap$PrivateEntryIterator", 13, "java/util/TreeMap", "modCount", "I", "java/util/TreeMap")]
abbrev yNput : MethodName := ⟨"java/util/NavigableMap", "put", "(Ljava/lang/Object;Ljava/lang/Object;)Ljava/lang/Object;"⟩
abbrev yMput : MethodName := ⟨"java/util/Map", "put", "(Ljava/lang/Object;Ljava/lang/Object;)Ljava/lang/Object;"⟩
/-- what TreeSet's call of NavigableMap.put asks of the tables -/
def tl_Pw (U : State) : Prop := va_Nw (.methodLink "java/util/TreeSet" 69 yNput) U ∧ va_Nw (.interfaceMethod "java/util/NavigableMap" "java/util/Map" yNput.name yNput.desc) U ∧ va_Nw (.declares yMput) U ∧ va_Nw (.publicMethod yMput) U ∧ va_Nw (.publicMethod yJ21_put) U ∧ va_Nw (.unhidden RJ21 yNput.name yNput.desc) U
theorem tl_Pw.warm {s U : State} (hW : s.WarmedH U.vm) (h : tl_Pw s) : tl_Pw U := by
  obtain ⟨h1, h2, h3, h4, h5, h6⟩ := h
  have tr : ∀ {w : Cond}, w.onTables = true → w.before #[] (s.setVm U.vm) = true → va_Nw w U := fun hw h => va_tabs hw (rfl : (s.setVm U.vm).vm = U.vm) h
  refine ⟨tr rfl (Cond.methodLink_shifted_any (State.Shifted.of_warmed hW) h1), tr rfl ?_, h3.warmD hW, tr rfl (by rw [Cond.publicMethod_setVm hW.alike]; exact h4), tr rfl (by rw [Cond.publicMethod_setVm hW.alike]; exact h5), tr rfl (by rw [Cond.unhidden_setVm hW.alike]; exact h6)⟩
  have h2 : (Cond.interfaceMethod "java/util/NavigableMap" "java/util/Map" yNput.name yNput.desc).before #[] s = true := h2
  simp only [Cond.before, Cond.holds, Cond.value, State.vm_setVm, hW.alike.findClass, State.methodFound?_setVm hW.alike, State.methodNamed?_setVm hW.alike, arm_isInterface_setVm hW.alike] at h2 ⊢
  exact h2
theorem tl_Pw.same {u U : State} (h : u.vm = U.vm) (hP : tl_Pw u) : tl_Pw U := ⟨hP.1.same rfl h, hP.2.1.same rfl h, hP.2.2.1.same rfl h, hP.2.2.2.1.same rfl h, hP.2.2.2.2.1.same rfl h, hP.2.2.2.2.2.same rfl h⟩
def tl_Ws (U : State) : Prop := (∀ q ∈ tl_casts, va_Nw (.castable q.1 q.2) U) ∧ (∀ q ∈ tl_faces, va_Fw q.1 q.2.1 q.2.2 U) ∧ (∀ q ∈ tl_nests, va_Nw (.fieldLinkNest q.1 q.2.1 q.2.2.1 q.2.2.2.1 q.2.2.2.2.1 q.2.2.2.2.2) U) ∧ va_AO "java/lang/Object" U ∧ tl_Pw U
theorem tl_faces_ok : ∀ q ∈ tl_faces, q.2.1.cls ≠ "java/lang/invoke/MethodHandle" ∧ q.2.1.cls ≠ "java/lang/invoke/VarHandle" := by decide +kernel
theorem tl_Ws.warm {s U : State} (hW : s.WarmedH U.vm) (h : tl_Ws s) : tl_Ws U :=
  ⟨fun q hq => (h.1 q hq).warmC hW, fun q hq => (h.2.1 q hq).moved (tl_faces_ok q hq) hW.alike, fun q hq => (h.2.2.1 q hq).warmF hW, h.2.2.2.1.moved hW.alike, h.2.2.2.2.warm hW⟩
/-- statics of the old cells -/
def tl_Zs (X : tl_X) (U : State) (H : Heap) : Prop :=
  va_Z "java/util/ArrayList" "DEFAULTCAPACITY_EMPTY_ELEMENTDATA" "[Ljava/lang/Object;" (.ref (X.2.2.2 0)) (tl_A X) U H ∧
  va_Z "java/util/TreeSet" "PRESENT" "Ljava/lang/Object;" (.ref (X.2.2.2 1)) (tl_A X) U H ∧
  va_Z "java/lang/Integer$IntegerCache" "high" "I" (.int 127) (tl_A X) U H ∧
  va_Z "java/lang/Integer$IntegerCache" "cache" "[Ljava/lang/Integer;" (.ref (X.2.2.2 2)) (tl_A X) U H ∧
  va_T (.object "java/lang/Integer") (X.2.2.2 2) 256 (fun k => .ref (X.2.2.2 (3 + k))) (tl_A X) U H ∧
  vx_Zq Bundle.tN "UNASSIGNED_STACK" Bundle.steD (tl_A X) U H ∧ vx_Zq Bundle.tN "SUPPRESSED_SENTINEL" Bundle.listD (tl_A X) U H ∧
  va_Mi "[Ljava/lang/Object;" (X.2.2.2 259) U ∧ va_Dc U ∧ va_Nw (.declares ⟨"java/util/AbstractCollection", "size", "()I"⟩) U
theorem tl_Nd.moved {x : MethodName} {s U : State} (hvm : s.vm.Alike U.vm) (hZ : va_Nw (.declares x) s) : va_Nw (.declares x) U := va_tabs rfl (rfl : (s.setVm U.vm).vm = U.vm) (by rw [Cond.declares_setVm hvm]; exact hZ)
theorem tl_Zs.moved {X : tl_X} {u U : State} {H : Heap} (hvm : u.vm.Alike U.vm) (h : tl_Zs X u H) : tl_Zs X U H := by
  obtain ⟨h1, h2, h3, h4, h5, h6, h7, h8, h9, h10⟩ := h
  exact ⟨h1.moved hvm, h2.moved hvm, h3.moved hvm, h4.moved hvm, h5.moved hvm, h6.moved hvm, h7.moved hvm, h8.moved hvm, h9.moved hvm, tl_Nd.moved hvm h10⟩
theorem tl_Zs.kept {X : tl_X} {U : State} {H H1 : Heap} (h : tl_Zs X U H) (hq : ∀ a : Nat, a < H.size → ¬ tl_A X a → H1[a]? = H[a]?) : tl_Zs X U H1 := by
  obtain ⟨h1, h2, h3, h4, h5, h6, h7, h8, h9, h10⟩ := h
  exact ⟨h1.kept hq, h2.kept hq, h3.kept hq, h4.kept hq, h5.kept hq, h6.kept hq, h7.kept hq, h8, h9, h10⟩
def tl_U (X : tl_X) (U : State) : Prop := va_K X.1 tl_cl (tl_tys X) U ∧ tl_Ws U ∧ tl_Zs X U U.heap
/-- a method's start -/
def tl_Pc (X : tl_X) (av : List Value) (σ : tl_H) : Array Value → State → Prop := va_Pc av (fun U => tl_U X U ∧ tl_M X σ U.heap)
abbrev tl_B (X : tl_X) (σ : tl_H) (t : State) : Prop := tl_M X σ t.heap
/-- a method's ends: nothing, an int, a long, a double, a reference or null -/
abbrev tl_Qv (X : tl_X) (P : tl_H → Prop) : Array Value → State → Outcome → State → Prop := va_Qv P (tl_B X) (tl_A X)
abbrev tl_Qi (X : tl_X) (P : Int32 → tl_H → Prop) : Array Value → State → Outcome → State → Prop := va_Qi P (tl_B X) (tl_A X)
abbrev tl_Ql (X : tl_X) (P : Int64 → tl_H → Prop) : Array Value → State → Outcome → State → Prop := va_Ql P (tl_B X) (tl_A X)
abbrev tl_Qd (X : tl_X) (P : UInt64 → tl_H → Prop) : Array Value → State → Outcome → State → Prop := va_Qd P (tl_B X) (tl_A X)
abbrev tl_Qq (X : tl_X) (P : Option Nat → tl_H → Prop) : Array Value → State → Outcome → State → Prop := va_Qq P (tl_B X) (tl_A X)
abbrev tl_rm (d mc ms : Nat) : Room := { frames := d, cells := mc, slots := ms, locals := 40 * d }
/-- a contract -/
abbrev tl_Met (l : Launch) (X : tl_X) (y : MethodName) (b : ByteArray) (L : Nat) (r : Option FieldType) (d mc ms : Nat) (av : List Value) (σ : tl_H) (Q : Array Value → State → Outcome → State → Prop) : Prop :=
  Met l y (ws_ y b L r) (tl_rm d mc ms) (tl_Pc X av σ) Q mc ms (tl_A X)
/-- .. that may throw: the exception's class, the heap behind it -/
abbrev tl_Mx (l : Launch) (X : tl_X) (y : MethodName) (b : ByteArray) (L : Nat) (r : Option FieldType) (d mc ms : Nat) (av : List Value) (σ : tl_H) (Q : Array Value → State → Outcome → State → Prop) (PX : String → tl_H → Prop) : Prop :=
  vx_Met l y (ws_ y b L r) (tl_rm d mc ms) (tl_Pc X av σ) Q (vx_X (fun _ : tl_H => True) (fun E σ' t => PX E σ' ∧ tl_M X σ' t.heap) (tl_A X)) mc ms (tl_A X)
theorem tl_blind {X : tl_X} {av : List Value} {σ : tl_H} : FrameBlind (tl_Pc X av σ) := by
  intro a U g mk h
  obtain ⟨h0, ⟨hK, hW, hZ⟩, hM⟩ := h
  refine ⟨h0, ⟨va_K.moved (u := U) (Vm.Alike.refl U.vm) hK, ?_, tl_Zs.moved (u := U) (Vm.Alike.refl U.vm) hZ⟩, hM⟩
  exact ⟨fun q hq => va_Nw.same (u := U) rfl rfl (hW.1 q hq), fun q hq => va_Fw.moved (u := U) (tl_faces_ok q hq) (Vm.Alike.refl U.vm) (hW.2.1 q hq), fun q hq => va_Nw.same (u := U) rfl rfl (hW.2.2.1 q hq), va_AO.moved (u := U) (Vm.Alike.refl U.vm) hW.2.2.2.1, tl_Pw.same (u := U) rfl hW.2.2.2.2⟩
theorem tl_U.at {X : tl_X} {s U : State} {σ : tl_H} {H : Heap} {locs : List Loc} (h : tl_U X s) (hS : tl_S X s σ H locs) (hU : U.heap = H) (hW : s.WarmedH U.vm) : tl_U X U ∧ tl_M X σ U.heap := by
  obtain ⟨hK, hWs, hZ⟩ := h
  refine ⟨⟨va_K.moved hW.alike hK, hWs.warm hW, ?_⟩, by rw [hU]; exact hS.1⟩
  rw [hU]
  exact (hZ.kept (fun a h1 h2 => hS.2.1.2.1 a h1 h2)).moved hW.alike
theorem tl_preS {X : tl_X} {s : State} {σ : tl_H} {H : Heap} {locs : List Loc} {As : List Value} (h : tl_U X s) (hS : tl_S X s σ H locs) : PreS s H (tl_Pc X As σ) As := ⟨tl_blind, fun _ hU hW => ⟨rfl, h.at hS hU hW⟩⟩
theorem tl_recv {X : tl_X} {s : State} {σ : tl_H} {H : Heap} {locs : List Loc} {b ci : Nat} {fs : List Value} {q : vw_C} (h : tl_U X s) (hS : tl_S X s σ H locs) (hr : σ b = some (oO ci fs)) (hc : tl_cl[ci]? = some q) : ∃ cell : Cell, H[b]? = some cell ∧ cell.vm.isStatics = false ∧ s.vm.findClass q.1 = some cell.cls := va_recv h.1 (tl_P1 hS hr) hc (q0 := 0) rfl
theorem tl_preV {X : tl_X} {s : State} {σ : tl_H} {H : Heap} {locs : List Loc} {As : List Value} {b ci : Nat} {fs : List Value} {q : vw_C} (h : tl_U X s) (hS : tl_S X s σ H locs) (hr : σ b = some (oO ci fs)) (hc : tl_cl[ci]? = some q) : PreV s H q.1 b (tl_Pc X (.ref b :: As) σ) As := ⟨tl_blind, tl_recv h hS hr hc, fun _ hU hW => ⟨rfl, h.at hS hU hW⟩⟩
section TC
variable {p : Program} {l : Launch} {e : Env} {R : Room} {s : State} {m : MethodId} {args : Array Value} {below : List Frame} {meth : Method} {c : Code} {H : Heap} {locs : List Loc} {cells slots : Nat} {Q : State → Prop}
variable {pc : Nat} {ls : Array Slot} {rest st0 : List Value} {a : Array Value} {mc ms : Nat} {X : tl_X} {σ : tl_H}
/-- behind a call -/
theorem tl_S.back {H1 : Heap} {locs1 : List Loc} {t : State} {σ1 : tl_H} (hS : tl_S X s σ H locs) (ht : t.heap = H1) (h1 : tl_B X σ1 t) (h2 : va_S (tl_A X) s.heap H1 locs1) : tl_S X s σ1 H1 locs1 := ⟨by rw [← ht]; exact h1, h2, hS.2.2⟩
theorem tl_ci {P : Int32 → tl_H → Prop} (hr : va_Run p l e R s m args below meth c H locs cells slots mc ms (F0 m pc ls st0) rest (tl_Qi X P a) (tl_A X)) (hS : tl_S X s σ H locs) (kk : ∀ (r : Int32) (σ1 : tl_H) (H1 : Heap) (locs1 : List Loc), P r σ1 → tl_S X s σ1 H1 locs1 → W p l e R s m args below meth c H1 locs1 (cells + mc) (slots + ms) Q (F0 m (pc + 3) ls (.int r :: rest))) : W p l e R s m args below meth c H locs cells slots Q (F0 m pc ls st0) :=
  va_calli hr hS.2.1 (fun _ _ h => h) (fun _ h => h) (fun r u t H1 locs1 ht _ hP hB _ _ h2 => kk r u H1 locs1 hP (hS.back ht hB h2))
theorem tl_cl_ {P : Int64 → tl_H → Prop} (hr : va_Run p l e R s m args below meth c H locs cells slots mc ms (F0 m pc ls st0) rest (tl_Ql X P a) (tl_A X)) (hS : tl_S X s σ H locs) (kk : ∀ (r : Int64) (σ1 : tl_H) (H1 : Heap) (locs1 : List Loc), P r σ1 → tl_S X s σ1 H1 locs1 → W p l e R s m args below meth c H1 locs1 (cells + mc) (slots + ms) Q (F0 m (pc + 3) ls (.long r :: rest))) : W p l e R s m args below meth c H locs cells slots Q (F0 m pc ls st0) :=
  va_calll hr hS.2.1 (fun _ _ h => h) (fun _ h => h) (fun r u t H1 locs1 ht _ hP hB _ _ h2 => kk r u H1 locs1 hP (hS.back ht hB h2))
theorem tl_cd {P : UInt64 → tl_H → Prop} (hr : va_Run p l e R s m args below meth c H locs cells slots mc ms (F0 m pc ls st0) rest (tl_Qd X P a) (tl_A X)) (hS : tl_S X s σ H locs) (kk : ∀ (r : UInt64) (σ1 : tl_H) (H1 : Heap) (locs1 : List Loc), P r σ1 → tl_S X s σ1 H1 locs1 → W p l e R s m args below meth c H1 locs1 (cells + mc) (slots + ms) Q (F0 m (pc + 3) ls (.double r :: rest))) : W p l e R s m args below meth c H locs cells slots Q (F0 m pc ls st0) :=
  va_calld hr hS.2.1 (fun _ _ h => h) (fun _ h => h) (fun r u t H1 locs1 ht _ hP hB _ _ h2 => kk r u H1 locs1 hP (hS.back ht hB h2))
theorem tl_cv {P : tl_H → Prop} (hr : va_Run p l e R s m args below meth c H locs cells slots mc ms (F0 m pc ls st0) rest (tl_Qv X P a) (tl_A X)) (hS : tl_S X s σ H locs) (kk : ∀ (σ1 : tl_H) (H1 : Heap) (locs1 : List Loc), P σ1 → tl_S X s σ1 H1 locs1 → W p l e R s m args below meth c H1 locs1 (cells + mc) (slots + ms) Q (F0 m (pc + 3) ls rest)) : W p l e R s m args below meth c H locs cells slots Q (F0 m pc ls st0) :=
  va_callv hr hS.2.1 (fun _ _ h => h) (fun _ h => h) (fun u t H1 locs1 ht _ hP hB _ _ h2 => kk u H1 locs1 hP (hS.back ht hB h2))
end TC
