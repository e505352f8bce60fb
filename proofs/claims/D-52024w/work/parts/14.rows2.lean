/-! MORE ROWS: references that may be null, casts, arrays by whole numbers, statics -/
set_option maxRecDepth 100000
/-- a map of whole numbers, changed at one place -/
def zup (g : Int → Int) (z x : Int) : Int → Int := fun j => if j = z then x else g j
theorem zup_s {g : Int → Int} {z x : Int} : zup g z x z = x := by simp [zup]
theorem zup_n {g : Int → Int} {z x j : Int} (h : j ≠ z) : zup g z x j = g j := by simp [zup, h]
/-- an array's contents by a map of whole numbers -/
abbrev zA (g : Int → Int) : Nat → Int32 := fun k => iI (g (k : Int))
theorem zA_up {g : Int → Int} {z x : Int} (h : 0 ≤ z) : va_up (zA g) z.toNat (iI x) = zA (zup g z x) := by
  funext k
  by_cases hk : k = z.toNat
  · subst hk
    simp [va_up, zA, zup, Int.toNat_of_nonneg h]
  · have hn : (k : Int) ≠ z := fun q => hk (by omega)
    simp [va_up, zA, zup, hk, hn]
theorem zA_at {g : Int → Int} {z : Int} (h : 0 ≤ z) : zA g z.toNat = iI (g z) := by simp [zA, Int.toNat_of_nonneg h]
theorem zA_0 : (fun _ => 0 : Nat → Int32) = zA (fun _ => 0) := by
  funext k
  exact iI_0
theorem up_kp {σ σ1 : tl_H} {a b : Nat} {v : Option va_E} {e : va_E} (eq : σ1 = va_up σ a v) (hne : b ≠ a) (h : σ b = some e) : σ1 b = some e := by rw [eq, up_n hne]; exact h
theorem up_kq {σ σ1 : tl_H} {a b : Nat} {v : Option va_E} {e : va_E} (eq : σ1 = va_up σ a v) (hq : σ a = none) (h : σ b = some e) : σ1 b = some e := by rw [eq]; exact up_old hq h
theorem tl_ne {σ : tl_H} {a b ca cb : Nat} {fa fb : List Value} (ha : σ a = some (oO ca fa)) (hb : σ b = some (oO cb fb)) (h : ca ≠ cb) : a ≠ b := by
  intro e
  subst e
  rw [ha] at hb
  simp at hb
  exact h hb.1
theorem tl_neA {σ : tl_H} {a b ca : Nat} {fa : List Value} {x : ClassId × vp_A} (ha : σ a = some (oO ca fa)) (hb : σ b = some (.inl x)) : a ≠ b := by
  intro e
  subst e
  rw [ha] at hb
  simp at hb
section TR2
variable {p : Program} {l : Launch} {e : Env} {R : Room} {s : State} {m : MethodId} {args : Array Value} {below : List Frame} {meth : Method} {c : Code} {H : Heap} {locs : List Loc} {cells slots : Nat} {Q : State → Prop}
variable {cc : ByteArray} {pc : Nat} {ls : Array Slot} {rest : List Value} {X : tl_X} {σ : tl_H} {a : Nat} {own : String}
theorem ti_rf {r : Option Nat} (h : r = some a) (k : W p l e R s m args below meth c H locs cells slots Q (F0 m pc ls (.ref a :: rest))) : W p l e R s m args below meth c H locs cells slots Q (F0 m pc ls (va_rf r :: rest)) := by rw [h]; exact k
theorem vq_aload_n (hx : p.tables.exec = Jvm.exec) (hb : c.code = cc) {k : Fin 4} {i : Nat} {r : Option Nat} (hdg : decode cc pc = .ok (.aload_n k, 1)) (hi : (k : Nat) = i) (hl : ls[i]? = some (.val (va_rf r))) (kk : W p l e R s m args below meth c H locs cells slots Q (F0 m (pc + 1) ls (va_rf r :: rest))) : W p l e R s m args below meth c H locs cells slots Q (F0 m pc ls rest) := by
  cases r with
  | none => exact lv_aload_nN hx hb hdg hi hl kk
  | some a => exact lv_aload_n hx hb hdg hi hl kk
theorem vq_aload (hx : p.tables.exec = Jvm.exec) (hb : c.code = cc) {i : Nat} {r : Option Nat} (hdg : decode cc pc = .ok (.aload i, 2)) (hl : ls[i]? = some (.val (va_rf r))) (kk : W p l e R s m args below meth c H locs cells slots Q (F0 m (pc + 2) ls (va_rf r :: rest))) : W p l e R s m args below meth c H locs cells slots Q (F0 m pc ls rest) := by
  cases r with
  | none => exact lv_aloadN hx hb hdg hl kk
  | some a => exact lv_aload hx hb hdg hl kk
theorem vq_astore_n (hx : p.tables.exec = Jvm.exec) (hb : c.code = cc) {k : Fin 4} {i nL : Nat} {r : Option Nat} {lv lv' : List (Nat × Value)} (hdg : decode cc pc = .ok (.astore_n k, 1)) (hi : (k : Nat) = i) (h : lv_has ls nL lv) (hn : i < nL) (hl : (i, va_rf r) :: lv.filter (fun q => !(q.1 == i) && !(q.1 + 1 == i && q.2.category == 2)) = lv')
    (kk : ∀ ls' : Array Slot, lv_has ls' nL lv' → W p l e R s m args below meth c H locs cells slots Q (F0 m (pc + 1) ls' rest)) : W p l e R s m args below meth c H locs cells slots Q (F0 m pc ls (va_rf r :: rest)) := by
  cases r with
  | none => exact lv_astore_nN hx hb hdg hi h hn hl kk
  | some a => exact lv_astore_n hx hb hdg hi h hn hl kk
theorem vq_astore (hx : p.tables.exec = Jvm.exec) (hb : c.code = cc) {i nL : Nat} {r : Option Nat} {lv lv' : List (Nat × Value)} (hdg : decode cc pc = .ok (.astore i, 2)) (h : lv_has ls nL lv) (hn : i < nL) (hl : (i, va_rf r) :: lv.filter (fun q => !(q.1 == i) && !(q.1 + 1 == i && q.2.category == 2)) = lv')
    (kk : ∀ ls' : Array Slot, lv_has ls' nL lv' → W p l e R s m args below meth c H locs cells slots Q (F0 m (pc + 2) ls' rest)) : W p l e R s m args below meth c H locs cells slots Q (F0 m pc ls (va_rf r :: rest)) := by
  cases r with
  | none => exact lv_astoreN hx hb hdg h hn hl kk
  | some a => exact lv_astore hx hb hdg h hn hl kk
theorem vq_ifnull (hx : p.tables.exec = Jvm.exec) (hb : c.code = cc) {r : Option Nat} {off : Int} {tgt : Nat} (hdg : decode cc pc = .ok (.ifnull off, 3)) (ht : (pc : Int) + off = (tgt : Int)) (kt : r = none → W p l e R s m args below meth c H locs cells slots Q (F0 m tgt ls rest)) (kf : ∀ a : Nat, r = some a → W p l e R s m args below meth c H locs cells slots Q (F0 m (pc + 3) ls rest)) : W p l e R s m args below meth c H locs cells slots Q (F0 m pc ls (va_rf r :: rest)) := by
  cases r with
  | none => exact lv_ifnullN hx hb hdg ht (kt rfl)
  | some a => exact lv_ifnull hx hb hdg (kf a rfl)
theorem vq_ifnonnull (hx : p.tables.exec = Jvm.exec) (hb : c.code = cc) {r : Option Nat} {off : Int} {tgt : Nat} (hdg : decode cc pc = .ok (.ifnonnull off, 3)) (ht : (pc : Int) + off = (tgt : Int)) (kt : ∀ a : Nat, r = some a → W p l e R s m args below meth c H locs cells slots Q (F0 m tgt ls rest)) (kf : r = none → W p l e R s m args below meth c H locs cells slots Q (F0 m (pc + 3) ls rest)) : W p l e R s m args below meth c H locs cells slots Q (F0 m pc ls (va_rf r :: rest)) := by
  cases r with
  | none => exact lv_ifnonnullN hx hb hdg (kf rfl)
  | some a => exact lv_ifnonnull hx hb hdg ht (kt a rfl)
theorem h_cast (C : tl_C X p s m args c cc own) (hS : tl_S X s σ H locs) {K : String} {T : u_T} {N ci index : Nat} (hc : tl_cl[ci]? = some (K, T, N)) (hlink : Cond.classLink own index K ∈ lw_all) {fs : List Value} (he : σ a = some (oO ci fs)) (hdg : decode cc pc = .ok (.checkcast index, 3))
    (kk : W p l e R s m args below meth c H locs cells slots Q (F0 m (pc + 3) ls (.ref a :: rest))) : W p l e R s m args below meth c H locs cells slots Q (F0 m pc ls (.ref a :: rest)) :=
  va_castS C.1 C.2.1 C.2.2.1 (C.2.2.2.1 _ hlink) (C.2.2.2.2.1.1 ci _ hc).2 (tl_recv C.2.2.2.2 hS he hc) hdg kk
/-- a cast to a class above, to an interface -/
theorem h_castY (C : tl_C X p s m args c cc own) (hS : tl_S X s σ H locs) {K nm : String} {T : u_T} {N ci index : Nat} (hc : tl_cl[ci]? = some (K, T, N)) (hlink : Cond.classLink own index nm ∈ lw_all) (hy : (K, nm) ∈ tl_casts) {fs : List Value} (he : σ a = some (oO ci fs)) (hdg : decode cc pc = .ok (.checkcast index, 3))
    (kk : W p l e R s m args below meth c H locs cells slots Q (F0 m (pc + 3) ls (.ref a :: rest))) : W p l e R s m args below meth c H locs cells slots Q (F0 m pc ls (.ref a :: rest)) :=
  va_castY C.1 C.2.1 C.2.2.1 (C.2.2.2.1 _ hlink) (C.2.2.2.2.2.1.1 _ hy) (tl_recv C.2.2.2.2 hS he hc) hdg kk
theorem h_ialdZ (C : tl_C X p s m args c cc own) (hS : tl_S X s σ H locs) {n : Nat} {g : Int → Int} {z : Int} (he : σ a = some (oI (X.2.2.1 0) n (zA g))) (h0 : 0 ≤ z) (h1 : z < n) (hn : n < 2147483648) (hdg : decode cc pc = .ok (.iaload, 1))
    (kk : W p l e R s m args below meth c H locs cells slots Q (F0 m (pc + 1) ls (.int (iI (g z)) :: rest))) : W p l e R s m args below meth c H locs cells slots Q (F0 m pc ls (.int (iI z) :: .ref a :: rest)) :=
  h_iald C hS he h0 h1 hn hdg (by rw [zA_at h0]; exact kk)
theorem h_zaldZ (C : tl_C X p s m args c cc own) (hS : tl_S X s σ H locs) {n : Nat} {g : Int → Int} {z : Int} (he : σ a = some (oI (X.2.2.1 1) n (zA g))) (h0 : 0 ≤ z) (h1 : z < n) (hn : n < 2147483648) (hdg : decode cc pc = .ok (.baload, 1))
    (kk : W p l e R s m args below meth c H locs cells slots Q (F0 m (pc + 1) ls (.int (iI (g z)) :: rest))) : W p l e R s m args below meth c H locs cells slots Q (F0 m pc ls (.int (iI z) :: .ref a :: rest)) :=
  h_zald C hS he h0 h1 hn hdg (by rw [zA_at h0]; exact kk)
theorem h_iastZ (C : tl_C X p s m args c cc own) (hS : tl_S X s σ H locs) {n : Nat} {g : Int → Int} {z x : Int} (he : σ a = some (oI (X.2.2.1 0) n (zA g))) (h0 : 0 ≤ z) (h1 : z < n) (hn : n < 2147483648) (hdg : decode cc pc = .ok (.iastore, 1))
    (kk : ∀ (H1 : Heap) (locs1 : List Loc), tl_S X s (va_up σ a (some (oI (X.2.2.1 0) n (zA (zup g z x))))) H1 locs1 → W p l e R s m args below meth c H1 locs1 cells slots Q (F0 m (pc + 1) ls rest)) : W p l e R s m args below meth c H locs cells slots Q (F0 m pc ls (.int (iI x) :: .int (iI z) :: .ref a :: rest)) :=
  h_iast C hS he h0 h1 hn hdg (by rw [zA_up h0]; exact kk)
theorem h_zastZ (C : tl_C X p s m args c cc own) (hS : tl_S X s σ H locs) {n : Nat} {g : Int → Int} {z x : Int} (he : σ a = some (oI (X.2.2.1 1) n (zA g))) (h0 : 0 ≤ z) (h1 : z < n) (hn : n < 2147483648) (hb : x = 0 ∨ x = 1) (hdg : decode cc pc = .ok (.bastore, 1))
    (kk : ∀ (H1 : Heap) (locs1 : List Loc), tl_S X s (va_up σ a (some (oI (X.2.2.1 1) n (zA (zup g z x))))) H1 locs1 → W p l e R s m args below meth c H1 locs1 cells slots Q (F0 m (pc + 1) ls rest)) : W p l e R s m args below meth c H locs cells slots Q (F0 m pc ls (.int (iI x) :: .int (iI z) :: .ref a :: rest)) :=
  h_zast C hS he h0 h1 hn hb hdg (by rw [zA_up h0]; exact kk)
theorem h_newiZ (C : tl_C X p s m args c cc own) (hS : tl_S X s σ H locs) {z : Int} {n : Nat} (h0 : z = n) (h1 : z ≤ 100000) (hcells : cells + 1 ≤ R.cells) (hslots : slots + n ≤ R.slots) (hdg : decode cc pc = .ok (.newarray .int, 2))
    (kk : ∀ (q : Nat) (H1 : Heap), tl_S X s (va_up σ q (some (oI (X.2.2.1 0) n (zA (fun _ => 0))))) H1 locs → σ q = none → X.2.1 ≤ q → W p l e R s m args below meth c H1 locs (cells + 1) (slots + n) Q (F0 m (pc + 2) ls (.ref q :: rest))) : W p l e R s m args below meth c H locs cells slots Q (F0 m pc ls (.int (iI z) :: rest)) := by
  subst h0
  refine h_newi C hS (by omega) h1 hcells (by simpa using hslots) hdg ?_
  rw [zA_0]
  simpa using kk
theorem h_newzZ (C : tl_C X p s m args c cc own) (hS : tl_S X s σ H locs) {z : Int} {n : Nat} (h0 : z = n) (h1 : z ≤ 100000) (hcells : cells + 1 ≤ R.cells) (hslots : slots + n ≤ R.slots) (hdg : decode cc pc = .ok (.newarray .boolean, 2))
    (kk : ∀ (q : Nat) (H1 : Heap), tl_S X s (va_up σ q (some (oI (X.2.2.1 1) n (zA (fun _ => 0))))) H1 locs → σ q = none → X.2.1 ≤ q → W p l e R s m args below meth c H1 locs (cells + 1) (slots + n) Q (F0 m (pc + 2) ls (.ref q :: rest))) : W p l e R s m args below meth c H locs cells slots Q (F0 m pc ls (.int (iI z) :: rest)) := by
  subst h0
  refine h_newz C hS (by omega) h1 hcells (by simpa using hslots) hdg ?_
  rw [zA_0]
  simpa using kk
/-- a static of the old cells -/
theorem h_gets (C : tl_C X p s m args c cc own) (hS : tl_S X s σ H locs) {K n d ref : String} {v : Value} {index : Nat} (hZ : va_Z K n d v (tl_A X) s s.heap) (hlink : Cond.fieldLink own index ref n d ∈ lw_all) (href : ref = K) (hdg : decode cc pc = .ok (.getstatic index, 3))
    (kk : W p l e R s m args below meth c H locs cells slots Q (F0 m (pc + 3) ls (v :: rest))) : W p l e R s m args below meth c H locs cells slots Q (F0 m pc ls rest) := by
  subst href
  exact va_gets C.1 C.2.1 hZ hS.2.1 C.2.2.1 (C.2.2.2.1 _ hlink) (fun _ h => h) hdg kk
/-- Object's constructor -/
theorem h_obj (C : tl_C X p s m args c cc own) {nL idx : Nat} (hml : c.maxLocals = nL) (hls : ls.size = nL) (q1 : Cond.methodLink own idx objectInit ∈ lw_all) (hdg : decode cc pc = .ok (.invokespecial idx, 3)) (h1 : 1 ≤ R.frames) (h2 : 40 ≤ R.locals) (hrest : (rest.map fun v => v.category).sum ≤ 8)
    (kk : W p l e R s m args below meth c H locs cells slots Q (F0 m (pc + 3) ls rest)) : W p l e R s m args below meth c H locs cells slots Q (F0 m pc ls (.ref a :: rest)) := by
  refine W.objInit C.1 C.2.1 C.2.2.1 (C.2.2.2.1 _ q1) (C.2.2.2.1 _ q102) (C.2.2.2.1 _ q103) rfl (hls.trans hml.symm) rfl hdg h1 ?_ kk
  have := lv_room (m := m) (pc := pc) (ls := ls) (rest := rest) hrest
  show 2 * 0 + _ + 12 ≤ _
  omega
/-- a yes or no on the stack, asked -/
theorem ti_tb_eq (hx : p.tables.exec = Jvm.exec) (hb : c.code = cc) {P : Prop} [Decidable P] {off : Int} {tgt : Nat} (hdg : decode cc pc = .ok (.ifCond .eq off, 3)) (ht : (pc : Int) + off = (tgt : Int)) (kt : ¬ P → W p l e R s m args below meth c H locs cells slots Q (F0 m tgt ls rest)) (kf : P → W p l e R s m args below meth c H locs cells slots Q (F0 m (pc + 3) ls rest)) : W p l e R s m args below meth c H locs cells slots Q (F0 m pc ls (.int (iI (tb (decide P))) :: rest)) := by
  by_cases h : P
  · rw [tb_t h]
    exact ti_if_eq hx hb hdg ht ⟨by decide, by decide⟩ (fun q => absurd q (by decide)) (fun _ => kf h)
  · rw [tb_f h]
    exact ti_if_eq hx hb hdg ht ⟨by decide, by decide⟩ (fun _ => kt h) (fun q => absurd rfl q)
theorem ti_tb_ne (hx : p.tables.exec = Jvm.exec) (hb : c.code = cc) {P : Prop} [Decidable P] {off : Int} {tgt : Nat} (hdg : decode cc pc = .ok (.ifCond .ne off, 3)) (ht : (pc : Int) + off = (tgt : Int)) (kt : P → W p l e R s m args below meth c H locs cells slots Q (F0 m tgt ls rest)) (kf : ¬ P → W p l e R s m args below meth c H locs cells slots Q (F0 m (pc + 3) ls rest)) : W p l e R s m args below meth c H locs cells slots Q (F0 m pc ls (.int (iI (tb (decide P))) :: rest)) := by
  by_cases h : P
  · rw [tb_t h]
    exact ti_if_ne hx hb hdg ht ⟨by decide, by decide⟩ (fun _ => kt h) (fun q => absurd q (by decide))
  · rw [tb_f h]
    exact ti_if_ne hx hb hdg ht ⟨by decide, by decide⟩ (fun q => absurd rfl q) (fun _ => kf h)
theorem lg_cmp0 {x y : Int64} : lg_cmp x y = 0 ↔ x = y := by
  unfold lg_cmp
  split
  · rename_i h
    constructor
    · intro h2; exact absurd h2 (by decide)
    · intro h2; subst h2; exact absurd h (Int64.lt_irrefl)
  · split
    · rename_i h
      exact ⟨fun _ => h, fun _ => rfl⟩
    · rename_i h1 h2
      exact ⟨fun h => absurd h (by decide), fun h => absurd h h2⟩
theorem ti_lcmp_eq (hx : p.tables.exec = Jvm.exec) (hb : c.code = cc) {x y : Int64} {off : Int} {tgt : Nat} (hdg : decode cc pc = .ok (.ifCond .eq off, 3)) (ht : (pc : Int) + off = (tgt : Int)) (kt : x = y → W p l e R s m args below meth c H locs cells slots Q (F0 m tgt ls rest)) (kf : x ≠ y → W p l e R s m args below meth c H locs cells slots Q (F0 m (pc + 3) ls rest)) : W p l e R s m args below meth c H locs cells slots Q (F0 m pc ls (.int (lg_cmp x y) :: rest)) :=
  lv_if_eq hx hb hdg ht (fun h => kt (lg_cmp0.mp h)) (fun h => kf (fun q => h (lg_cmp0.mpr q)))
theorem ti_lcmp_ne (hx : p.tables.exec = Jvm.exec) (hb : c.code = cc) {x y : Int64} {off : Int} {tgt : Nat} (hdg : decode cc pc = .ok (.ifCond .ne off, 3)) (ht : (pc : Int) + off = (tgt : Int)) (kt : x ≠ y → W p l e R s m args below meth c H locs cells slots Q (F0 m tgt ls rest)) (kf : x = y → W p l e R s m args below meth c H locs cells slots Q (F0 m (pc + 3) ls rest)) : W p l e R s m args below meth c H locs cells slots Q (F0 m pc ls (.int (lg_cmp x y) :: rest)) :=
  lv_if_ne hx hb hdg ht (fun h => kt (fun q => h (lg_cmp0.mpr q))) (fun h => kf (lg_cmp0.mp h))
theorem q_max : Cond.code Lib.Math.max.name Lib.Math.max.code 2 (some .int) ∈ lw_all := q338
theorem q_min : Cond.code Lib.Math.min.name Lib.Math.min.code 2 (some .int) ∈ lw_all := q544
theorem ti_max (C : tl_C X p s m args c cc own) {nL index : Nat} (hml : c.maxLocals = nL) (hls : ls.size = nL) (q1 : Cond.methodLink own index Lib.Math.max.name ∈ lw_all) {x y : Int} (hx : iR x) (hy : iR y) (hdg : decode cc pc = .ok (.invokestatic index, 3)) (h1 : 1 ≤ R.frames) (h2 : 40 ≤ R.locals) (hrest : (rest.map fun v => v.category).sum ≤ 8) (hc : cells ≤ R.cells) (hs : slots ≤ R.slots)
    (kk : W p l e R s m args below meth c H locs cells slots Q (F0 m (pc + 3) ls (.int (iI (max x y)) :: rest))) : W p l e R s m args below meth c H locs cells slots Q (F0 m pc ls (.int (iI y) :: .int (iI x) :: rest)) := by
  refine va_mmax C.1 C.2.1 (hml.trans hls.symm) C.2.2.1 (C.2.2.2.1 _ q1) (C.2.2.2.1 _ q337) (C.2.2.2.1 _ q61) (C.2.2.2.1 _ q_max) h1 (by omega) hc hs hdg ?_
  have e : (if iI x < iI y then iI y else iI x) = iI (max x y) := by
    by_cases h : x < y
    · rw [if_pos ((iI_lt hx hy).mpr h)]
      congr 1
      omega
    · rw [if_neg (fun q => h ((iI_lt hx hy).mp q))]
      congr 1
      omega
  rw [e]
  exact kk
theorem ti_min (C : tl_C X p s m args c cc own) {nL index : Nat} (hml : c.maxLocals = nL) (hls : ls.size = nL) (q1 : Cond.methodLink own index Lib.Math.min.name ∈ lw_all) {x y : Int} (hx : iR x) (hy : iR y) (hdg : decode cc pc = .ok (.invokestatic index, 3)) (h1 : 1 ≤ R.frames) (h2 : 40 ≤ R.locals) (hrest : (rest.map fun v => v.category).sum ≤ 8) (hc : cells ≤ R.cells) (hs : slots ≤ R.slots)
    (kk : W p l e R s m args below meth c H locs cells slots Q (F0 m (pc + 3) ls (.int (iI (min x y)) :: rest))) : W p l e R s m args below meth c H locs cells slots Q (F0 m pc ls (.int (iI y) :: .int (iI x) :: rest)) := by
  refine va_mmin C.1 C.2.1 (hml.trans hls.symm) C.2.2.1 (C.2.2.2.1 _ q1) (C.2.2.2.1 _ q543) (C.2.2.2.1 _ q61) (C.2.2.2.1 _ q_min) h1 (by omega) hc hs hdg ?_
  have e : (if iI y < iI x then iI y else iI x) = iI (min x y) := by
    by_cases h : y < x
    · rw [if_pos ((iI_lt hy hx).mpr h)]
      congr 1
      omega
    · rw [if_neg (fun q => h ((iI_lt hy hx).mp q))]
      congr 1
      omega
  rw [e]
  exact kk
end TR2
