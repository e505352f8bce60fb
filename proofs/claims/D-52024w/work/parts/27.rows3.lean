/-! ROWS for lists: references compared, copied, class objects -/
set_option maxRecDepth 100000
theorem tl_startF {l : Launch} {X : tl_X} {y : MethodName} {cc : ByteArray} {maxL : Nat} {ret : Option FieldType} {d mc ms : Nat} {av : List Value} {σ : tl_H} {Q : Array Value → State → Outcome → State → Prop} (hy : plainFor y = true) (hn : (lg_sl av).length ≤ maxL)
    (body : ∀ (p : Program) (e : Env) (s : State) (m : MethodId) (below : List Frame) (meth : Method) (c : Code) (ls : Array Slot), tl_C X p s m av.toArray c cc y.cls → meth.sig.returnType = ret → c.maxLocals = maxL → meth.locks = false → meth.name = y.name → tl_S X s σ s.heap [] → lv_has ls maxL (lv_args 0 av) → W p l e (tl_rm d mc ms) s m av.toArray below meth c s.heap [] 0 0 (MQ below Q av.toArray s mc ms (tl_A X)) (F0 m 0 ls [])) : tl_Met l X y cc maxL ret d mc ms av σ Q := by
  refine va_MetF (cc := cc) (maxL := maxL) (ret := ret) hy rfl ?_
  intro p e s m args below meth c s₁ B hml hv
  obtain ⟨rfl, hU, hM⟩ := hv
  have hts := atoms_spec (ws := ws_ y cc maxL ret) B.pre
  have hts : ∀ w ∈ lw_all, w.before _ s = true := fun w h => hts w (List.mem_cons_of_mem _ h)
  have hl := lv_entry av hn
  rw [lg_entry_eq]
  exact body p e s m below meth c _ ⟨B.exec, B.bytes, findClass_of_methodNamed B.named, hts, hU⟩ B.returns hml B.notSynchronized (name_of_methodNamed B.named B.method).1 ⟨hM, va_S.rf, hM.1⟩ hl
section TR3
variable {p : Program} {l : Launch} {e : Env} {R : Room} {s : State} {m : MethodId} {args : Array Value} {below : List Frame} {meth : Method} {c : Code} {H : Heap} {locs : List Loc} {cells slots : Nat} {Q : State → Prop}
variable {cc : ByteArray} {pc : Nat} {ls : Array Slot} {rest : List Value} {X : tl_X} {σ : tl_H} {a : Nat} {own : String}
/-- a cell that may lie in an array of Objects -/
def tl_ob (σ : tl_H) (v : Nat) : Prop := ∃ (ci : Nat) (vs : List Value) (q : vw_C), σ v = some (oO ci vs) ∧ tl_cl[ci]? = some q ∧ (q.1, "java/lang/Object") ∈ tl_casts
theorem tl_ob.any (C : tl_C X p s m args c cc own) (hS : tl_S X s σ H locs) {v : Nat} (h : tl_ob σ v) : va_Any "java/lang/Object" s H v := by
  obtain ⟨ci, vs, q, h1, h2, h3⟩ := h
  have hK := C.2.2.2.2.1
  refine va_rAny hK (tl_P1 hS h1) (q0 := 0) rfl h2 (fun comp c0 f g => ?_)
  obtain ⟨c1, t0, f1, f2, f3⟩ := Cond.castable_spec (va_Nw.use (A := args) rfl (C.2.2.2.2.2.1.1 _ h3))
  have e1 : c1 = c0 := Option.some.inj (f1.symm.trans g)
  have e2 : t0 = comp := Option.some.inj (f2.symm.trans f)
  subst e1
  subst e2
  exact f3
theorem h_aastO (C : tl_C X p s m args c cc own) (hS : tl_S X s σ H locs) {n v : Nat} {f : Nat → Option Nat} {z : Int} (he : σ a = some (oQ (X.2.2.1 3) n f)) (hv : tl_ob σ v) (h0 : 0 ≤ z) (h1 : z < n) (hn : n < 2147483648) (hdg : decode cc pc = .ok (.aastore, 1))
    (kk : ∀ (H1 : Heap) (locs1 : List Loc), tl_S X s (va_up σ a (some (oQ (X.2.2.1 3) n (va_up f z.toNat (some v))))) H1 locs1 → W p l e R s m args below meth c H1 locs1 cells slots Q (F0 m (pc + 1) ls rest)) : W p l e R s m args below meth c H locs cells slots Q (F0 m pc ls (.ref v :: .int (iI z) :: .ref a :: rest)) := by
  obtain ⟨ci, vs, q, g1, g2, g3⟩ := hv
  exact h_aast C hS he g1 g2 g3 h0 h1 hn hdg kk
/-- System.arraycopy of references -/
theorem h_copyq (C : tl_C X p s m args c cc own) (hS : tl_S X s σ H locs) {nL index : Nat} (hml : c.maxLocals = nL) (hls : ls.size = nL) (q1 : Cond.methodLink own index arraycopyName ∈ lw_all) {a0 n0 n1 : Nat} {f g : Nat → Option Nat} {sp dp n : Int} (he0 : σ a0 = some (oQ (X.2.2.1 3) n0 f)) (he1 : σ a = some (oQ (X.2.2.1 3) n1 g)) (hn0 : n0 ≤ 100000) (hn1 : n1 ≤ 100000) (hp1 : n1 ≠ 0) (h1 : 0 ≤ sp) (h2 : 0 ≤ dp) (h3 : 0 ≤ n) (h4 : sp + n ≤ n0) (h5 : dp + n ≤ n1) (hel : ∀ i : Nat, (i : Int) < n → ∀ y : Nat, f (sp.toNat + i) = some y → tl_ob σ y)
    (hframes : 1 ≤ R.frames) (hlocals : 40 ≤ R.locals) (hrest : (rest.map fun v => v.category).sum ≤ 8) (hdg : decode cc pc = .ok (.invokestatic index, 3))
    (kk : ∀ (H1 : Heap) (locs1 : List Loc), tl_S X s (va_up σ a (some (oQ (X.2.2.1 3) n1 (va_cpy f g sp.toNat dp.toNat n.toNat)))) H1 locs1 → W p l e R s m args below meth c H1 locs1 cells slots Q (F0 m (pc + 3) ls rest)) : W p l e R s m args below meth c H locs cells slots Q (F0 m pc ls (.int (iI n) :: .int (iI dp) :: .ref a :: .int (iI sp) :: .ref a0 :: rest)) := by
  have hK := C.2.2.2.2.1
  have hts := C.2.2.2.1
  have rs : iR sp := ⟨by omega, by omega⟩
  have rd : iR dp := ⟨by omega, by omega⟩
  have rn : iR n := ⟨by omega, by omega⟩
  have hc0 : H[a0]? = some (vp_cell (X.2.2.1 3) (n0, .inr (.inr (.inr (.inr f))))) := tl_P1 hS he0 0 _ rfl
  have hc1 : H[a]? = some (vp_cell (X.2.2.1 3) (n1, .inr (.inr (.inr (.inr g))))) := tl_P1 hS he1 0 _ rfl
  have hw : X.2.1 ≤ a := hS.wr he1 (by show ¬ n1 = 0; exact hp1)
  intro T hT Y
  obtain ⟨-, k0, hk0, cm0, hkk0⟩ := (hK.2 3 _ rfl).1 n0 (fun j => va_rf (f j))
  obtain ⟨-, k1, hk1, cm1, hkk1⟩ := (hK.2 3 _ rfl).1 n1 (fun j => va_rf (g j))
  have neg : ∀ {z : Int}, iR z → 0 ≤ z → ¬ iI z < 0 := fun {z} hz h0 => by
    show ¬ iI z < iI 0
    rw [iI_lt hz iR_0]
    omega
  obtain ⟨vm', X', step⟩ := Y.arraycopy C.1 C.2.2.1 (hts _ q1) (hts _ q1013) (hts _ q1012) (hts _ q63) (src := a0) (dst := a) (cs := vp_cell (X.2.2.1 3) (n0, .inr (.inr (.inr (.inr f))))) (cd := vp_cell (X.2.2.1 3) (n1, .inr (.inr (.inr (.inr g))))) (srcPos := iI sp) (destPos := iI dp) (n := iI n) (by rw [hT]; exact hc0) (by rw [hT]; exact hc1)
    (fun _ h => by cases h) (fun _ h => by cases h) (fun h => by cases h) (fun h => by cases h) hk0 hk1 hkk0 hkk1 rfl (neg rs h1) (neg rd h2) (neg rn h3)
    (by rw [iI_toInt rs, iI_toInt rn]; show ¬ _ > ((arrV (X.2.2.1 3) n0 (fun j => va_rf (f j))).slots.size : Int); rw [arrV_size]; omega)
    (by rw [iI_toInt rd, iI_toInt rn]; show ¬ _ > ((arrV (X.2.2.1 3) n1 (fun j => va_rf (g j))).slots.size : Int); rw [arrV_size]; omega)
    (fun vm₁ hal i hi => by
      rw [iI_clamp rn] at hi
      rw [iI_clamp rs]
      have e : (vp_cell (X.2.2.1 3) (n0, .inr (.inr (.inr (.inr f))))).slots.getD (sp.toNat + i) .null = va_rf (f (sp.toNat + i)) := by
        show (arrV (X.2.2.1 3) n0 (fun j => va_rf (f j))).slots.getD _ _ = _
        rw [Array.getD_eq_getD_getElem?, arrV_read _ _ (by omega)]
        rfl
      rw [e]
      cases hy : f (sp.toNat + i) with
      | none => exact ⟨rfl, trivial⟩
      | some y =>
        obtain ⟨cellV, g1, g2, ⟨kC, hkC⟩, hasg⟩ := (hel i (by omega) y hy).any C hS
        obtain ⟨kA, comp, r1, r2, r3, -⟩ := (hK.2 3 _ rfl).2
        cases hk1.symm.trans r1
        cases hkk1.symm.trans r2
        obtain ⟨kE, hkE, -⟩ := Vm.findClass_spec r3
        obtain ⟨kC', hkC', -⟩ := hal.2.2 _ _ hkC
        obtain ⟨kE', hkE', -⟩ := hal.2.2 _ _ hkE
        refine ⟨rfl, cellV, (show T.heap[y]? = some cellV by rw [hT]; exact g1), (fun q h => by rw [h] at g2; cases g2), ⟨kC', hkC'⟩, ?_, ?_⟩
        · exact ⟨kE', hkE'⟩
        · show vm₁.assignable _ _ = true
          rw [hal.assignable]
          exact hasg _ r3)
    (g := F0 m pc ls (.int (iI n) :: .int (iI dp) :: .ref a :: .int (iI sp) :: .ref a0 :: rest)) rfl (by rw [hml]; exact hls) (rest := rest) rfl (by rw [C.2.1]; exact hdg) hframes (by
      have hw : nativeFrameWords "java/lang/System" "arraycopy" 5 ≤ 15 := by decide
      show 2 * 0 + _ + _ ≤ _
      omega)
  have e1 : copied (vp_cell (X.2.2.1 3) (n0, .inr (.inr (.inr (.inr f))))) (vp_cell (X.2.2.1 3) (n1, .inr (.inr (.inr (.inr g))))) (iI sp) (iI dp) (iI n) = vp_cell (X.2.2.1 3) (n1, .inr (.inr (.inr (.inr (va_cpy f g sp.toNat dp.toNat n.toNat))))) := by
    rw [vp_cell_q, vp_cell_q, vp_cell_q, ← iI_clamp rs, ← iI_clamp rd, ← iI_clamp rn]
    exact va_copied (fun z => va_rf z) _ _ f g (by rw [iI_clamp rs, iI_clamp rn]; omega)
  rw [e1] at X' step
  generalize hE : vp_cell (X.2.2.1 3) (n1, .inr (.inr (.inr (.inr (va_cpy f g sp.toNat dp.toNat n.toNat))))) = E at X' step
  have hl : a < H.size := (Array.getElem?_eq_some_iff.mp hc1).1
  have hheap : ((T.setVm vm').setCell a E).heap = H.setIfInBounds a E := by rw [← hT]; rfl
  have oq : ∀ q : Nat, q ≠ a → (H.setIfInBounds a E)[q]? = H[q]? := fun q hq => by simp [Array.getElem?_setIfInBounds, Ne.symm hq]
  have hat : va_at X.1 tl_cl (a, oQ (X.2.2.1 3) n1 (va_cpy f g sp.toNat dp.toNat n.toNat)) (H.setIfInBounds a E) := by
    show (H.setIfInBounds a E)[a]? = some (vp_cell _ _)
    rw [hE]
    simp [Array.getElem?_setIfInBounds, hl]
  obtain ⟨t, a1, b1⟩ := kk _ _ ⟨hS.1.set (by simp) hat hw oq, ⟨by simp; exact hS.2.1.1, fun q g1 g2 => by
      rw [oq q (fun e => g2 (by rw [e]; exact hw))]
      exact hS.2.1.2.1 q g1 g2, fun q hq => by
      rcases List.mem_append.mp hq with h | h
      · exact hS.2.1.2.2 q h
      · obtain ⟨z, -, hz⟩ := List.mem_map.mp h
        rw [← hz]
        exact hw⟩, hS.2.2⟩ _ hheap X'
  exact ⟨t, step t a1, b1⟩
/-- the class object of the arrays of Objects -/
theorem h_ldcM (C : tl_C X p s m args c cc own) {index : Nat} (q1 : Cond.classLink own index "[Ljava/lang/Object;" ∈ lw_all) (hdg : decode cc pc = .ok (.ldc index, 2))
    (k : W p l e R s m args below meth c H locs cells slots Q (F0 m (pc + 2) ls (.ref (X.2.2.2 259) :: rest))) : W p l e R s m args below meth c H locs cells slots Q (F0 m pc ls rest) :=
  va_ldcM C.1 C.2.1 C.2.2.1 (C.2.2.2.1 _ q1) C.2.2.2.2.2.2.2.2.2.2.2.2.2.1 hdg k
theorem h_getC (C : tl_C X p s m args c cc own) (hS : tl_S X s σ H locs) {nL index : Nat} (hml : c.maxLocals = nL) (hls : ls.size = nL) (q1 : Cond.methodLink own index ⟨"java/lang/Object", "getClass", "()Ljava/lang/Class;"⟩ ∈ lw_all) {n : Nat} {f : Nat → Option Nat} (he : σ a = some (oQ (X.2.2.1 3) n f)) (hframes : 1 ≤ R.frames) (hlocals : 40 ≤ R.locals) (hrest : (rest.map fun v => v.category).sum ≤ 8) (hdg : decode cc pc = .ok (.invokevirtual index, 3))
    (k : W p l e R s m args below meth c H locs cells slots Q (F0 m (pc + 3) ls (.ref (X.2.2.2 259) :: rest))) : W p l e R s m args below meth c H locs cells slots Q (F0 m pc ls (.ref a :: rest)) := by
  have hZ := C.2.2.2.2.2.2.2.2.2.2.2.2.2
  have hts := C.2.2.2.1
  exact va_getC C.1 C.2.1 (hml.trans hls.symm) C.2.2.1 (hts _ q1) hZ.2.1.use (hts _ q2018) (hts _ q974) (hts _ q1003) hZ.1 ⟨_, tl_P1 hS he 0 _ rfl, rfl, va_nmO (C.2.2.2.2.1.2 3 _ rfl).2 rfl⟩ hframes (by omega) hdg k
theorem h_aaldY (C : tl_C X p s m args c cc own) (hS : tl_S X s σ H locs) {n y : Nat} {f : Nat → Option Nat} {z : Int} (he : σ a = some (oQ (X.2.2.1 3) n f)) (hy : f z.toNat = some y) (h0 : 0 ≤ z) (h1 : z < n) (hn : n < 2147483648) (hdg : decode cc pc = .ok (.aaload, 1))
    (kk : W p l e R s m args below meth c H locs cells slots Q (F0 m (pc + 1) ls (.ref y :: rest))) : W p l e R s m args below meth c H locs cells slots Q (F0 m pc ls (.int (iI z) :: .ref a :: rest)) :=
  h_aald C hS he h0 h1 hn hdg (by rw [hy]; exact kk)
/-- half of a number -/
theorem iI_half {z : Int} (h0 : 0 ≤ z) (h1 : z < 1073741824) : iI z >>> 1 = iI (z / 2) := by
  have e : z = ((z.toNat : Nat) : Int) := by omega
  rw [e]
  generalize z.toNat = k at *
  have hk : k < 1073741824 := by omega
  apply Int32.toBitVec_inj.mp
  apply BitVec.eq_of_toInt_eq
  have e1 : (iI ((k : Int) / 2)).toBitVec.toInt = (k : Int) / 2 := iI_toInt (z := (k : Int) / 2) ⟨by omega, by omega⟩
  have e2 : (iI (k : Int)).toBitVec.toInt = (k : Int) := iI_toInt (z := (k : Int)) ⟨by omega, by omega⟩
  rw [e1, Int32.toBitVec_shiftRight]
  show ((iI (k : Int)).toBitVec.sshiftRight 1).toInt = _
  rw [BitVec.toInt_sshiftRight, e2]
  exact Int.shiftRight_eq_div_pow _ _
theorem ti_ishr1 (hx : p.tables.exec = Jvm.exec) (hb : c.code = cc) {z : Int} (h0 : 0 ≤ z) (h1 : z < 1073741824) (hdg : decode cc pc = .ok (.ishr, 1)) (k : W p l e R s m args below meth c H locs cells slots Q (F0 m (pc + 1) ls (.int (iI (z / 2)) :: rest))) : W p l e R s m args below meth c H locs cells slots Q (F0 m pc ls (.int (iI 1) :: .int (iI z) :: rest)) :=
  lv_ishr hx hb hdg (by rw [show iI 1 &&& 31 = (1 : Int32) by decide, iI_half h0 h1]; exact k)
variable {st0 : List Value}
theorem t_A (C : tl_C X p s m args c cc own) {nL : Nat} (hml : c.maxLocals = nL) (hS : tl_S X s σ H locs) {y : MethodName} {bytes : ByteArray} {maxL d mc ms n index : Nat} {As : List Value} {Qc : Array Value → State → Outcome → State → Prop} {x : MethodName} {K owner : String} {b ci : Nat} {fs : List Value} {ret : Option FieldType} (hM : tl_Met l X y bytes maxL ret d mc ms (.ref b :: As) σ Qc) (q1 : Cond.methodLink own index x ∈ lw_all) (q2 : Cond.sameMethod x.cls owner x.name x.desc ∈ lw_all) (q3 : Cond.selects K x y ∈ lw_all) (q4 : Cond.instanceMethod y ∈ lw_all) (q5 : Cond.initialized y.cls ∈ lw_all) (q6 : Cond.code y bytes maxL ret ∈ lw_all) (hz : va_Nw (.declares ⟨owner, x.name, x.desc⟩) s) (hd : owner ≠ "java/lang/invoke/MethodHandle" ∧ owner ≠ "java/lang/invoke/VarHandle" ∧ (parseMethodDescriptor x.desc).map (fun d => d.parameters.length) = some n) (hr : σ b = some (oO ci fs)) {T : u_T} {N : Nat} (hc : tl_cl[ci]? = some (K, T, N)) (hn : As.length = n) (hls : ls.size = nL) (hst : st0 = As.reverse ++ .ref b :: rest) (hW : (rest.map fun v => v.category).sum ≤ 8) (hdg : decode cc pc = .ok (.invokevirtual index, 3)) (hR : d + 1 ≤ R.frames ∧ 8 + (maxL + 11) + 40 * d ≤ R.locals) (hf : cells + mc ≤ R.cells ∧ slots + ms ≤ R.slots) :
    va_Run p l e R s m args below meth c H locs cells slots mc ms (F0 m pc ls st0) rest (Qc (Value.ref b :: As).toArray) (tl_A X) :=
  va_runU ⟨C.1, C.2.1, hml, C.2.2.1, C.2.2.2.1⟩ hM (va_cwA n C.2.2.2.1 (lw_U q1 q2 q3 q4 q5 q6) rfl rfl rfl hz hd hR) (tl_preV C.2.2.2.2 hS hr hc) rfl hn hls hst (lv_room hW) hdg hf
/-- TreeSet's call of NavigableMap.put (which Map declares) -/
theorem t_N (C : tl_C X p s m args c cc RJ23) {nL : Nat} (hml : c.maxLocals = nL) (hS : tl_S X s σ H locs) {d mc ms : Nat} {As : List Value} {Qc : Array Value → State → Outcome → State → Prop} {b count : Nat} {fs : List Value} (hM : tl_Met l X yJ21_put cJ21_put 3 (some (.object "java/lang/Object")) d mc ms (.ref b :: As) σ Qc) (q5 : Cond.code yJ21_put cJ21_put 3 (some (.object "java/lang/Object")) ∈ lw_all) (q4 : Cond.initialized RJ21 ∈ lw_all) (hr : σ b = some (oO 13 fs)) (hn : As.length = 2) (hls : ls.size = nL) (hst : st0 = As.reverse ++ .ref b :: rest) (hW : (rest.map fun v => v.category).sum ≤ 8) (hdg : decode cc pc = .ok (.invokeinterface 69 count, 5)) (hR : d + 1 ≤ R.frames ∧ 8 + (3 + 11) + 40 * d ≤ R.locals) (hf : cells + mc ≤ R.cells ∧ slots + ms ≤ R.slots) :
    va_Run5 p l e R s m args below meth c H locs cells slots mc ms (F0 m pc ls st0) rest (Qc (Value.ref b :: As).toArray) (tl_A X) := by
  have hts := C.2.2.2.1
  have hp : PreV s H RJ21 b (tl_Pc X (.ref b :: As) σ) As := tl_preV C.2.2.2.2 hS hr (q := (RJ21, TJ21, 9)) rfl
  have hG : GoodIn lw_all (ws_ yJ21_put cJ21_put 3 (some (.object "java/lang/Object"))) := lw_meth q5
  have hcw : Cond.code yJ21_put cJ21_put 3 (some (.object "java/lang/Object")) ∈ ws_ yJ21_put cJ21_put 3 (some (.object "java/lang/Object")) := List.mem_cons_self
  have hini := hts _ q4
  have hK : Back l R p e below s args yJ21_put 5 8 (PreOf R mc ms (tl_Pc X (.ref b :: As) σ)) (PostOf Qc mc ms (tl_A X)) := back_of (bytes := cJ21_put) (maxL := 3) (ret := some (.object "java/lang/Object")) hM hp.1 rfl rfl hR.1 hR.2 (pay_in hts hG) hcw (fun a' U hW => word_at hW (Or.inl (by first | rfl | simp [Cond.onTables, Cond.keeps, Cond.steady])) hini)
  obtain ⟨-, ⟨cellB, hcB, hoB, hclB⟩, hPc⟩ := hp
  obtain ⟨hfc, kB, hkB, -⟩ := (C.2.2.2.2.1.1 13 (RJ21, TJ21, 9) rfl).2
  have hcc := Option.some.inj (hfc.symm.trans hclB)
  rw [hcc] at hkB
  obtain ⟨w1, w2, w3, w4, w5, w6⟩ := C.2.2.2.2.2.1.2.2.2.2
  have w1 := w1.use (A := args) rfl
  have w2 := w2.use (A := args) rfl
  have w3 := w3.use (A := args) rfl
  have w4 := w4.use (A := args) rfl
  have w5 := w5.use (A := args) rfl
  have w6 := w6.use (A := args) rfl
  obtain ⟨r0, r, hn0, hrm, hstR, hsigR⟩ := Cond.declares_spec w3
  obtain ⟨cL, kL, r1, hcL, hkL, hiL, hfoundL, hn1⟩ := Cond.interfaceMethod_spec w2
  cases hn0.symm.trans hn1
  obtain ⟨hnameR, hdescR⟩ := name_of_methodNamed hn0 hrm
  obtain ⟨mk, methM, hnamed, hmethM, -, habM⟩ := Cond.instanceMethod_spec (hts _ q486)
  obtain ⟨c2, r2, m2, z1, z2, z3, z4, -⟩ := Cond.selects_spec (hts _ q484)
  cases hclB.symm.trans z1
  cases (State.methodFound?_of_named hn0 (by decide)).symm.trans z2
  cases hnamed.symm.trans z3
  have hpubM : hasFlag methM.accessFlags Acc.public_ = true := Cond.publicMethod_spec hnamed hmethM w5
  have hway : ((cellB.cls :: s.vm.superclasses cellB.cls).any fun k => (declaredIn s.vm r.name r.desc k).any fun (_, z) => z.isPrivate || z.isStatic) = false := by
    rw [hnameR, hdescR]; exact Cond.unhidden_spec hclB w6
  obtain ⟨c3, t3, v1, v2, v3⟩ := Cond.castable_spec (va_Nw.use (A := args) rfl (C.2.2.2.2.2.1.1 (RJ21, "java/util/NavigableMap") (by decide +kernel)))
  cases hclB.symm.trans v1
  cases hcL.symm.trans v2
  intro T hT Y
  have hselP : selectMethod e.platform s.vm cellB.cls r0 = .method mk := by rw [Launch.admits_selectMethod Y.admits]; exact z4
  obtain ⟨vm₁, X₁, hstep₁⟩ := Y.invokeinterfaceUp C.1 (J := "java/util/Map") (x := yNput) C.2.2.1 w1 w2 w3 w4 (by decide) (by decide) (a := b) (cell := cellB) (kcell := kB) hcL (by rw [hT]; exact hcB)
    (fun z h => by rw [h] at hoB; cases hoB) hkB v3 hn0 hrm hselP hmethM hway hpubM habM (g := F0 m pc ls st0) rfl (argsL := As) (rest := rest) (by
      have h2 : (parseMethodDescriptor yMput.desc).map (fun d => d.parameters.length) = some 2 := by decide +kernel
      rw [hsigR] at h2
      exact hn.trans (Option.some.inj h2).symm) hst (by rw [C.2.1]; exact hdg)
  obtain ⟨v, ⟨U', l2, c2, s2⟩, X', ⟨g', mk', t, L, e1, e2, hq, h1, hL, h2, h3⟩, hsteps⟩ := hK m meth c ⟨T.setVm vm₁, locs, cells, slots⟩ { F0 m pc ls st0 with stack := rest } (.invokeinterface 69 count) mk (Value.ref b :: As).toArray X₁ rfl (hls.trans hml.symm) (by rw [C.2.1]; exact hdg) (lv_room hW) (X₁.named hnamed) ⟨hf.1, hf.2, hPc (T.setVm vm₁) hT X₁.warmed⟩
  dsimp only [Pt.U, Pt.locs, Pt.cells, Pt.slots] at X' e1 e2 h1 h2 h3 hsteps
  subst h1; subst h2; subst h3
  exact ⟨v, (T.setVm vm₁).calling g' mk' (Value.ref b :: As).toArray, t, U', L, hT, X', hL, e1, e2, hq, fun target h => hstep₁ _ fun acts => by rw [doInvoke_state]; exact hsteps.trans h⟩
end TR3
