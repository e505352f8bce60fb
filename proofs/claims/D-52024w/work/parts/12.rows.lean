/-! ROWS over the map of known cells -/
set_option maxRecDepth 100000
/-- what a walk has of its method: the machine, the code, the class it is in, the tables' words, the world's tables -/
abbrev tl_C (X : tl_X) (p : Program) (s : State) (m : MethodId) (args : Array Value) (c : Code) (cc : ByteArray) (own : String) : Prop :=
  p.tables.exec = Jvm.exec ∧ c.code = cc ∧ s.vm.findClass own = some m.cls ∧ (∀ w ∈ lw_all, w.before args s = true) ∧ tl_U X s
section TR
variable {p : Program} {l : Launch} {e : Env} {R : Room} {s : State} {m : MethodId} {args : Array Value} {below : List Frame} {meth : Method} {c : Code} {H : Heap} {locs : List Loc} {cells slots : Nat} {Q : State → Prop}
variable {cc : ByteArray} {pc : Nat} {ls : Array Slot} {rest : List Value} {X : tl_X} {σ : tl_H} {a : Nat} {own : String}
theorem h_get (C : tl_C X p s m args c cc own) (hS : tl_S X s σ H locs) {ref K : String} {T : u_T} {N ci index : Nat} (hin : ∀ w ∈ u_ws K T N, w ∈ lw_all) (hc : tl_cl[ci]? = some (K, T, N)) (k : Nat) (hk : k < N) (hlink : Cond.fieldLink own index ref (T k).2.1 (T k).2.2.1 ∈ lw_all) (hsame : ∀ x, s.fieldFound? (T k).1 (T k).2.1 (T k).2.2.1 = some x → s.fieldFound? ref (T k).2.1 (T k).2.2.1 = some x) {fs : List Value} {v : Value} (he : σ a = some (oO ci fs)) (hv : fs[k]? = some v) (hdg : decode cc pc = .ok (.getfield index, 3))
    (kk : W p l e R s m args below meth c H locs cells slots Q (F0 m (pc + 3) ls (v :: rest))) : W p l e R s m args below meth c H locs cells slots Q (F0 m pc ls (.ref a :: rest)) :=
  va_get C.1 C.2.1 C.2.2.2.1 hin C.2.2.1 C.2.2.2.2.1 (tl_P1 hS he) 0 rfl hc k hk (C.2.2.2.1 _ hlink) hsame hv hdg kk
theorem h_getN (C : tl_C X p s m args c cc own) (hS : tl_S X s σ H locs) {ref K host : String} {T : u_T} {N ci index : Nat} (hin : ∀ w ∈ u_ws K T N, w ∈ lw_all) (hc : tl_cl[ci]? = some (K, T, N)) (k : Nat) (hk : k < N) (hlink : (own, index, ref, (T k).2.1, (T k).2.2.1, host) ∈ tl_nests) (hsame : ∀ x, s.fieldFound? (T k).1 (T k).2.1 (T k).2.2.1 = some x → s.fieldFound? ref (T k).2.1 (T k).2.2.1 = some x) {fs : List Value} {v : Value} (he : σ a = some (oO ci fs)) (hv : fs[k]? = some v) (hdg : decode cc pc = .ok (.getfield index, 3))
    (kk : W p l e R s m args below meth c H locs cells slots Q (F0 m (pc + 3) ls (v :: rest))) : W p l e R s m args below meth c H locs cells slots Q (F0 m pc ls (.ref a :: rest)) :=
  va_getN C.1 C.2.1 C.2.2.2.1 hin C.2.2.1 C.2.2.2.2.1 (tl_P1 hS he) 0 rfl hc k hk (va_Nw.use rfl (C.2.2.2.2.2.1.2.2.1 _ hlink)) hsame hv hdg kk
theorem h_put (C : tl_C X p s m args c cc own) (hS : tl_S X s σ H locs) {ref K : String} {T : u_T} {N ci index : Nat} (hin : ∀ w ∈ u_ws K T N, w ∈ lw_all) (ty0 : Nat → FieldType) (hty : ∀ k, k < N → parseFieldDescriptor (T k).2.2.1 = some (ty0 k)) (hnm : ∀ a, a < N → ∀ b, b < N → a ≠ b → (T a).2.1 ≠ (T b).2.1) (hc : tl_cl[ci]? = some (K, T, N)) (k : Nat) (hk : k < N) (hlink : Cond.fieldLink own index ref (T k).2.1 (T k).2.2.1 ∈ lw_all) (hsame : ∀ x, s.fieldFound? (T k).1 (T k).2.1 (T k).2.2.1 = some x → s.fieldFound? ref (T k).2.1 (T k).2.2.1 = some x) (hfin : (T k).2.2.2 = false) (h15 : ci ≠ 15) {fs : List Value} {v : Value} (he : σ a = some (oO ci fs)) (hn : narrow (ty0 k) v = v) (hfit : fits (ty0 k) v = true) (hl : k < fs.length) (hdg : decode cc pc = .ok (.putfield index, 3))
    (kk : ∀ (H1 : Heap) (locs1 : List Loc), tl_S X s (va_up σ a (some (oO ci (fs.set k v)))) H1 locs1 → W p l e R s m args below meth c H1 locs1 cells slots Q (F0 m (pc + 3) ls rest)) : W p l e R s m args below meth c H locs cells slots Q (F0 m pc ls (v :: .ref a :: rest)) := by
  have hts := C.2.2.2.1
  have hK := C.2.2.2.2.1
  have hap := va_apart (own := own) hts hin ty0 hty hnm hK hc
  obtain ⟨r, h1, cell, q1, q2, q3, q4⟩ := tl_P1 hS he 0 _ rfl
  have hr : r = (K, T, N) := Option.some.inj (h1.symm.trans hc)
  subst hr
  obtain ⟨hSl, hfc, kC, hkC, hkind⟩ := hK.1 ci _ hc
  obtain ⟨cf, kf, fi, f, hi, hsl⟩ := hSl k hk
  have hlay := hts _ (hin _ (u_in_lay hk))
  unfold u_lay at hlay
  rw [if_neg (by rw [hfin]; decide)] at hlay
  have hst := (u_facts hfc hkC (u_lays hts hin hk) hi).1
  have h6 := u_store hfc hkC hkind hlay hi (hty k hk) hn hfit
  refine W.putK C.1 C.2.1 (f := f) ⟨C.2.2.1, hts _ hlink, ⟨_, _, _, hsame _ hi⟩, hst⟩ (by rw [q2]; exact h6) q1 q3 (by rw [hsl]; exact k2_hasslot (q4 k hk)) rfl rfl hdg fun H' e1 e2 e3 => ?_
  rw [hsl] at e1 ⊢
  exact kk H' _ (hS.put _ e2 ⟨_, hc, t_OB.to (V := updV (vp_V fs) k v) ⟨_, e1, q2, q3, t_set q4 hap hk v⟩ (fun j _ => vp_updV_set hl v j)⟩ (hS.wr he h15) e3)
theorem h_putN (C : tl_C X p s m args c cc own) (hS : tl_S X s σ H locs) {ref K host : String} {T : u_T} {N ci index : Nat} (hin : ∀ w ∈ u_ws K T N, w ∈ lw_all) (ty0 : Nat → FieldType) (hty : ∀ k, k < N → parseFieldDescriptor (T k).2.2.1 = some (ty0 k)) (hnm : ∀ a, a < N → ∀ b, b < N → a ≠ b → (T a).2.1 ≠ (T b).2.1) (hc : tl_cl[ci]? = some (K, T, N)) (k : Nat) (hk : k < N) (hlink : (own, index, ref, (T k).2.1, (T k).2.2.1, host) ∈ tl_nests) (hsame : ∀ x, s.fieldFound? (T k).1 (T k).2.1 (T k).2.2.1 = some x → s.fieldFound? ref (T k).2.1 (T k).2.2.1 = some x) (hfin : (T k).2.2.2 = false) (h15 : ci ≠ 15) {fs : List Value} {v : Value} (he : σ a = some (oO ci fs)) (hn : narrow (ty0 k) v = v) (hfit : fits (ty0 k) v = true) (hl : k < fs.length) (hdg : decode cc pc = .ok (.putfield index, 3))
    (kk : ∀ (H1 : Heap) (locs1 : List Loc), tl_S X s (va_up σ a (some (oO ci (fs.set k v)))) H1 locs1 → W p l e R s m args below meth c H1 locs1 cells slots Q (F0 m (pc + 3) ls rest)) : W p l e R s m args below meth c H locs cells slots Q (F0 m pc ls (v :: .ref a :: rest)) := by
  have hts := C.2.2.2.1
  have hK := C.2.2.2.2.1
  have hap := va_apart (own := own) hts hin ty0 hty hnm hK hc
  obtain ⟨r, h1, cell, q1, q2, q3, q4⟩ := tl_P1 hS he 0 _ rfl
  have hr : r = (K, T, N) := Option.some.inj (h1.symm.trans hc)
  subst hr
  obtain ⟨hSl, hfc, kC, hkC, hkind⟩ := hK.1 ci _ hc
  obtain ⟨cf, kf, fi, f, hi, hsl⟩ := hSl k hk
  have hlay := hts _ (hin _ (u_in_lay hk))
  unfold u_lay at hlay
  rw [if_neg (by rw [hfin]; decide)] at hlay
  have hst := (u_facts hfc hkC (u_lays hts hin hk) hi).1
  have h6 := u_store hfc hkC hkind hlay hi (hty k hk) hn hfit
  refine va_WputK C.1 C.2.1 (f := f) C.2.2.1 (va_Nw.use rfl (C.2.2.2.2.2.1.2.2.1 _ hlink)) (hsame _ hi) hst (by rw [q2]; exact h6) q1 q3 (by rw [hsl]; exact k2_hasslot (q4 k hk)) rfl rfl hdg fun H' e1 e2 e3 => ?_
  rw [hsl] at e1 ⊢
  exact kk H' _ (hS.put _ e2 ⟨_, hc, t_OB.to (V := updV (vp_V fs) k v) ⟨_, e1, q2, q3, t_set q4 hap hk v⟩ (fun j _ => vp_updV_set hl v j)⟩ (hS.wr he h15) e3)
theorem h_putF (C : tl_C X p s m args c cc own) (hin2 : meth.name = "<init>") (hS : tl_S X s σ H locs) {ref K : String} {T : u_T} {N ci index : Nat} (hin : ∀ w ∈ u_ws K T N, w ∈ lw_all) (ty0 : Nat → FieldType) (hty : ∀ k, k < N → parseFieldDescriptor (T k).2.2.1 = some (ty0 k)) (hnm : ∀ a, a < N → ∀ b, b < N → a ≠ b → (T a).2.1 ≠ (T b).2.1) (hc : tl_cl[ci]? = some (K, T, N)) (k : Nat) (hk : k < N) (hlink : Cond.fieldLink own index ref (T k).2.1 (T k).2.2.1 ∈ lw_all) (hsame : ∀ x, s.fieldFound? (T k).1 (T k).2.1 (T k).2.2.1 = some x → s.fieldFound? ref (T k).2.1 (T k).2.2.1 = some x) (hfin : (T k).2.2.2 = true) (hdecl : (T k).1 = own) (hw : X.2.1 ≤ a) {fs : List Value} {v : Value} (he : σ a = some (oO ci fs)) (hn : narrow (ty0 k) v = v) (hfit : fits (ty0 k) v = true) (hl : k < fs.length) (hdg : decode cc pc = .ok (.putfield index, 3))
    (kk : ∀ (H1 : Heap) (locs1 : List Loc), tl_S X s (va_up σ a (some (oO ci (fs.set k v)))) H1 locs1 → W p l e R s m args below meth c H1 locs1 cells slots Q (F0 m (pc + 3) ls rest)) : W p l e R s m args below meth c H locs cells slots Q (F0 m pc ls (v :: .ref a :: rest)) := by
  have hts := C.2.2.2.1
  have hK := C.2.2.2.2.1
  have hown := C.2.2.1
  have hap := va_apart (own := own) hts hin ty0 hty hnm hK hc
  obtain ⟨r, h1, cell, q1, q2, q3, q4⟩ := tl_P1 hS he 0 _ rfl
  have hr : r = (K, T, N) := Option.some.inj (h1.symm.trans hc)
  subst hr
  obtain ⟨hSl, hfc, kC, hkC, hkind⟩ := hK.1 ci _ hc
  obtain ⟨cf, kf, fi, f, hi, hsl⟩ := hSl k hk
  have hlay := hts _ (hin _ (u_in_lay hk))
  unfold u_lay at hlay
  rw [if_pos hfin] at hlay
  have hst := (u_facts hfc hkC (u_lays hts hin hk) hi).1
  have hcf : m.cls = cf := by
    obtain ⟨_, _, c', _, _, _, -, -, hf', -, -, -, hown2, -⟩ := Cond.laysFinal_spec hlay
    have e1 : c' = cf := by have := hi.symm.trans hf'; simp at this; exact this.1.symm
    rw [hdecl] at hown2
    rw [← e1]; exact Option.some.inj (hown.symm.trans hown2)
  have h6 := u_fits hfc hkC hkind (Or.inr hlay) hi (hty k hk) hn hfit
  refine W.putFinK C.1 C.2.1 hown (hts _ hlink) (hsame _ hi) hst hcf hin2 (by rw [q2]; exact h6) q1 q3 (by rw [hsl]; exact k2_hasslot (q4 k hk)) rfl rfl hdg fun H' e1 e2 e3 => ?_
  rw [hsl] at e1 ⊢
  exact kk H' _ (hS.put _ e2 ⟨_, hc, t_OB.to (V := updV (vp_V fs) k v) ⟨_, e1, q2, q3, t_set q4 hap hk v⟩ (fun j _ => vp_updV_set hl v j)⟩ hw e3)
theorem h_new (C : tl_C X p s m args c cc own) (hS : tl_S X s σ H locs) {K : String} {T : u_T} {N ci index : Nat} (hin : ∀ w ∈ u_ws K T N, w ∈ lw_all) (ty : Nat → FieldType) (hty : ∀ k, k < N → parseFieldDescriptor (T k).2.2.1 = some (ty k)) (hcl : Cond.classLink own index K ∈ lw_all) (hinst : Cond.instantiable K N ∈ lw_all) (hini : Cond.initialized K ∈ lw_all) (hc : tl_cl[ci]? = some (K, T, N)) {fs : List Value} (hfs : ∀ j, j < N → defaultValue (ty j) = vp_V fs j) (hcells : cells + 1 ≤ R.cells) (hslots : slots + N ≤ R.slots) (hdg : decode cc pc = .ok (.new index, 3))
    (kk : ∀ (q : Nat) (H1 : Heap), tl_S X s (va_up σ q (some (oO ci fs))) H1 locs → σ q = none → X.2.1 ≤ q → W p l e R s m args below meth c H1 locs (cells + 1) (slots + N) Q (F0 m (pc + 3) ls (.ref q :: rest))) : W p l e R s m args below meth c H locs cells slots Q (F0 m pc ls rest) := by
  have hts := C.2.2.2.1
  have hKn := C.2.2.2.2.1.1 ci _ hc
  refine W.newcK C.1 C.2.1 C.2.2.1 (hts _ hcl) (hts _ hinst) (hts _ hini) rfl hdg hcells hslots hKn.2.1 rfl fun H1 kC hkC e1 z1 o1 => ?_
  obtain ⟨h1, h2, h3⟩ := hS.new (e := oO ci fs) z1 ⟨_, hc, (u_born ty hts hin hKn hkC e1 hty).to hfs⟩ o1
  exact kk H.size H1 h1 h2 h3
theorem h_iald (C : tl_C X p s m args c cc own) (hS : tl_S X s σ H locs) {n : Nat} {f : Nat → Int32} {z : Int} (he : σ a = some (oI (X.2.2.1 0) n f)) (h0 : 0 ≤ z) (h1 : z < n) (hn : n < 2147483648) (hdg : decode cc pc = .ok (.iaload, 1))
    (kk : W p l e R s m args below meth c H locs cells slots Q (F0 m (pc + 1) ls (.int (f z.toNat) :: rest))) : W p l e R s m args below meth c H locs cells slots Q (F0 m pc ls (.int (iI z) :: .ref a :: rest)) := by
  refine va_iald C.1 C.2.1 C.2.2.2.2.1 (tl_P1 hS he) 0 0 rfl rfl (iI_in h0 h1 hn) hdg ?_
  rw [iI_clamp ⟨by omega, by omega⟩]
  exact kk
theorem h_zald (C : tl_C X p s m args c cc own) (hS : tl_S X s σ H locs) {n : Nat} {f : Nat → Int32} {z : Int} (he : σ a = some (oI (X.2.2.1 1) n f)) (h0 : 0 ≤ z) (h1 : z < n) (hn : n < 2147483648) (hdg : decode cc pc = .ok (.baload, 1))
    (kk : W p l e R s m args below meth c H locs cells slots Q (F0 m (pc + 1) ls (.int (f z.toNat) :: rest))) : W p l e R s m args below meth c H locs cells slots Q (F0 m pc ls (.int (iI z) :: .ref a :: rest)) := by
  refine va_zald C.1 C.2.1 C.2.2.2.2.1 (tl_P1 hS he) 0 1 rfl rfl (iI_in h0 h1 hn) hdg ?_
  rw [iI_clamp ⟨by omega, by omega⟩]
  exact kk
theorem h_lald (C : tl_C X p s m args c cc own) (hS : tl_S X s σ H locs) {n : Nat} {f : Nat → Int64} {z : Int} (he : σ a = some (oL (X.2.2.1 2) n f)) (h0 : 0 ≤ z) (h1 : z < n) (hn : n < 2147483648) (hdg : decode cc pc = .ok (.laload, 1))
    (kk : W p l e R s m args below meth c H locs cells slots Q (F0 m (pc + 1) ls (.long (f z.toNat) :: rest))) : W p l e R s m args below meth c H locs cells slots Q (F0 m pc ls (.int (iI z) :: .ref a :: rest)) := by
  refine va_lald C.1 C.2.1 C.2.2.2.2.1 (tl_P1 hS he) 0 2 rfl rfl (iI_in h0 h1 hn) hdg ?_
  rw [iI_clamp ⟨by omega, by omega⟩]
  exact kk
theorem h_aald (C : tl_C X p s m args c cc own) (hS : tl_S X s σ H locs) {n : Nat} {f : Nat → Option Nat} {z : Int} (he : σ a = some (oQ (X.2.2.1 3) n f)) (h0 : 0 ≤ z) (h1 : z < n) (hn : n < 2147483648) (hdg : decode cc pc = .ok (.aaload, 1))
    (kk : W p l e R s m args below meth c H locs cells slots Q (F0 m (pc + 1) ls (va_rf (f z.toNat) :: rest))) : W p l e R s m args below meth c H locs cells slots Q (F0 m pc ls (.int (iI z) :: .ref a :: rest)) := by
  refine va_aldq C.1 C.2.1 C.2.2.2.2.1 (tl_P1 hS he) 0 3 rfl rfl (iI_in h0 h1 hn) hdg ?_
  rw [iI_clamp ⟨by omega, by omega⟩]
  exact kk
theorem h_alenI (C : tl_C X p s m args c cc own) (hS : tl_S X s σ H locs) {n : Nat} {f : Nat → Int32} (he : σ a = some (oI (X.2.2.1 0) n f)) (hdg : decode cc pc = .ok (.arraylength, 1))
    (kk : W p l e R s m args below meth c H locs cells slots Q (F0 m (pc + 1) ls (.int (iI (n : Int)) :: rest))) : W p l e R s m args below meth c H locs cells slots Q (F0 m pc ls (.ref a :: rest)) :=
  va_alen C.1 C.2.1 C.2.2.2.2.1 (tl_P1 hS he) 0 0 rfl rfl (Int32.ofInt_eq_ofNat).symm hdg kk
theorem h_alenQ (C : tl_C X p s m args c cc own) (hS : tl_S X s σ H locs) {n : Nat} {f : Nat → Option Nat} (he : σ a = some (oQ (X.2.2.1 3) n f)) (hdg : decode cc pc = .ok (.arraylength, 1))
    (kk : W p l e R s m args below meth c H locs cells slots Q (F0 m (pc + 1) ls (.int (iI (n : Int)) :: rest))) : W p l e R s m args below meth c H locs cells slots Q (F0 m pc ls (.ref a :: rest)) :=
  va_alen C.1 C.2.1 C.2.2.2.2.1 (tl_P1 hS he) 0 3 rfl rfl (Int32.ofInt_eq_ofNat).symm hdg kk
theorem h_iast (C : tl_C X p s m args c cc own) (hS : tl_S X s σ H locs) {n : Nat} {f : Nat → Int32} {z : Int} {x : Int32} (he : σ a = some (oI (X.2.2.1 0) n f)) (h0 : 0 ≤ z) (h1 : z < n) (hn : n < 2147483648) (hdg : decode cc pc = .ok (.iastore, 1))
    (kk : ∀ (H1 : Heap) (locs1 : List Loc), tl_S X s (va_up σ a (some (oI (X.2.2.1 0) n (va_up f z.toNat x)))) H1 locs1 → W p l e R s m args below meth c H1 locs1 cells slots Q (F0 m (pc + 1) ls rest)) : W p l e R s m args below meth c H locs cells slots Q (F0 m pc ls (.int x :: .int (iI z) :: .ref a :: rest)) := by
  have hin := iI_in h0 h1 hn
  refine W.iast C.1 C.2.1 (tl_P1 hS he 0 _ rfl) ((C.2.2.2.2.1.2 0 _ rfl).1 n (fun j => .int (f j))) (fun q => by cases q) (by show ¬ (iI z < 0 ∨ (arrV _ _ _).slots.size ≤ _); rw [arrV_size]; exact hin) rfl rfl hdg fun H1 e1 z1 oq => ?_
  refine kk H1 _ (hS.put _ z1 ?_ (hS.wr he (by show ¬ n = 0; omega)) oq)
  show H1[a]? = some (vp_cell _ _)
  rw [e1]
  rw [vp_cell_i, vp_cell_i, arrV_store, iI_clamp ⟨by omega, by omega⟩]
  congr 2
  funext q
  by_cases hq : q = z.toNat
  · subst hq
    simp [updV, va_up]
  · simp [updV, va_up, hq]
theorem h_zast (C : tl_C X p s m args c cc own) (hS : tl_S X s σ H locs) {n : Nat} {f : Nat → Int32} {z b : Int} (he : σ a = some (oI (X.2.2.1 1) n f)) (h0 : 0 ≤ z) (h1 : z < n) (hn : n < 2147483648) (hb : b = 0 ∨ b = 1) (hdg : decode cc pc = .ok (.bastore, 1))
    (kk : ∀ (H1 : Heap) (locs1 : List Loc), tl_S X s (va_up σ a (some (oI (X.2.2.1 1) n (va_up f z.toNat (iI b))))) H1 locs1 → W p l e R s m args below meth c H1 locs1 cells slots Q (F0 m (pc + 1) ls rest)) : W p l e R s m args below meth c H locs cells slots Q (F0 m pc ls (.int (iI b) :: .int (iI z) :: .ref a :: rest)) := by
  have hin := iI_in h0 h1 hn
  refine W.zast C.1 C.2.1 (tl_P1 hS he 0 _ rfl) ((C.2.2.2.2.1.2 1 _ rfl).1 n (fun j => .int (f j))) (fun q => by cases q) (by show ¬ (iI z < 0 ∨ (arrV _ _ _).slots.size ≤ _); rw [arrV_size]; exact hin) rfl rfl hdg fun H1 e1 z1 oq => ?_
  refine kk H1 _ (hS.put _ z1 ?_ (hS.wr he (by show ¬ n = 0; omega)) oq)
  show H1[a]? = some (vp_cell _ _)
  rw [e1]
  rw [iI_bit hb, vp_cell_i, vp_cell_i, arrV_store, iI_clamp ⟨by omega, by omega⟩]
  congr 2
  funext q
  by_cases hq : q = z.toNat
  · subst hq
    simp [updV, va_up]
  · simp [updV, va_up, hq]
theorem h_last (C : tl_C X p s m args c cc own) (hS : tl_S X s σ H locs) {n : Nat} {f : Nat → Int64} {z : Int} {x : Int64} (he : σ a = some (oL (X.2.2.1 2) n f)) (h0 : 0 ≤ z) (h1 : z < n) (hn : n < 2147483648) (hdg : decode cc pc = .ok (.lastore, 1))
    (kk : ∀ (H1 : Heap) (locs1 : List Loc), tl_S X s (va_up σ a (some (oL (X.2.2.1 2) n (va_up f z.toNat x)))) H1 locs1 → W p l e R s m args below meth c H1 locs1 cells slots Q (F0 m (pc + 1) ls rest)) : W p l e R s m args below meth c H locs cells slots Q (F0 m pc ls (.long x :: .int (iI z) :: .ref a :: rest)) := by
  have hin := iI_in h0 h1 hn
  refine W.last C.1 C.2.1 (tl_P1 hS he 0 _ rfl) ((C.2.2.2.2.1.2 2 _ rfl).1 n (fun j => .long (f j))) (fun q => by cases q) (by show ¬ (iI z < 0 ∨ (arrV _ _ _).slots.size ≤ _); rw [arrV_size]; exact hin) rfl rfl hdg fun H1 e1 z1 oq => ?_
  refine kk H1 _ (hS.put _ z1 ?_ (hS.wr he (by show ¬ n = 0; omega)) oq)
  show H1[a]? = some (vp_cell _ _)
  rw [e1]
  rw [vp_cell_l, vp_cell_l, arrV_store, iI_clamp ⟨by omega, by omega⟩]
  congr 2
  funext q
  by_cases hq : q = z.toNat
  · subst hq
    simp [updV, va_up]
  · simp [updV, va_up, hq]
/-- an object into an array of Objects -/
theorem h_aast (C : tl_C X p s m args c cc own) (hS : tl_S X s σ H locs) {n ci v : Nat} {q : vw_C} {vs : List Value} {f : Nat → Option Nat} {z : Int} (he : σ a = some (oQ (X.2.2.1 3) n f)) (hv : σ v = some (oO ci vs)) (hc : tl_cl[ci]? = some q) (hcast : (q.1, "java/lang/Object") ∈ tl_casts) (h0 : 0 ≤ z) (h1 : z < n) (hn : n < 2147483648) (hdg : decode cc pc = .ok (.aastore, 1))
    (kk : ∀ (H1 : Heap) (locs1 : List Loc), tl_S X s (va_up σ a (some (oQ (X.2.2.1 3) n (va_up f z.toNat (some v))))) H1 locs1 → W p l e R s m args below meth c H1 locs1 cells slots Q (F0 m (pc + 1) ls rest)) : W p l e R s m args below meth c H locs cells slots Q (F0 m pc ls (.ref v :: .int (iI z) :: .ref a :: rest)) := by
  have hK := C.2.2.2.2.1
  obtain ⟨r', hr', cellV, g1, g2, g3, -⟩ := tl_P1 hS hv 0 _ rfl
  have hcls := (hK.1 ci q hc).2
  obtain ⟨kA, comp, k1, k2, k3, -⟩ := (hK.2 3 _ rfl).2
  obtain ⟨c0, t0, f1, f2, f3⟩ := Cond.castable_spec (va_Nw.use (A := args) rfl (C.2.2.2.2.2.1.1 _ hcast))
  have e1 : c0 = X.1.1 ci := Option.some.inj (f1.symm.trans hcls.1)
  have e2 : t0 = comp := Option.some.inj (f2.symm.trans k3)
  subst e1
  subst e2
  obtain ⟨kC, hkC, -⟩ := hcls.2
  obtain ⟨kO, hkO, -⟩ := Vm.findClass_spec f2
  refine W.aast C.1 C.2.1 (tl_P1 hS he 0 _ rfl) (fun q h => by cases h) (fun h => by cases h) k1 k2 rfl hkO ⟨fun q => (iI_in h0 h1 hn) (Or.inl q), by show _ < (arrV _ _ _).slots.size; rw [arrV_size]; exact Nat.not_le.mp fun q => (iI_in h0 h1 hn) (Or.inr q)⟩ g1 (fun q h => by rw [g3] at h; cases h) (by rw [g2]; exact hkC) (by rw [g2]; exact f3) rfl rfl hdg fun H1 e1 z1 oq => ?_
  refine kk H1 _ (hS.put _ z1 ?_ (hS.wr he (by show ¬ n = 0; omega)) oq)
  show H1[a]? = some (vp_cell _ _)
  rw [e1]
  rw [vp_cell_q, vp_cell_q, arrV_store, iI_clamp ⟨by omega, by omega⟩]
  congr 2
  funext q
  by_cases hq : q = z.toNat
  · subst hq
    simp [updV, va_up, va_rf]
  · simp [updV, va_up, hq]
theorem h_aastN (C : tl_C X p s m args c cc own) (hS : tl_S X s σ H locs) {n : Nat} {f : Nat → Option Nat} {z : Int} (he : σ a = some (oQ (X.2.2.1 3) n f)) (h0 : 0 ≤ z) (h1 : z < n) (hn : n < 2147483648) (hdg : decode cc pc = .ok (.aastore, 1))
    (kk : ∀ (H1 : Heap) (locs1 : List Loc), tl_S X s (va_up σ a (some (oQ (X.2.2.1 3) n (va_up f z.toNat none)))) H1 locs1 → W p l e R s m args below meth c H1 locs1 cells slots Q (F0 m (pc + 1) ls rest)) : W p l e R s m args below meth c H locs cells slots Q (F0 m pc ls (.null :: .int (iI z) :: .ref a :: rest)) := by
  have hin := iI_in h0 h1 hn
  refine va_WaastN (C := "java/lang/Object") C.1 C.2.1 (tl_P1 hS he 0 _ rfl) ((C.2.2.2.2.1.2 3 _ rfl).1 n (fun j => va_rf (f j))) (fun h => by cases h) (by show ¬ (iI z < 0 ∨ (arrV _ _ _).slots.size ≤ _); rw [arrV_size]; exact hin) rfl rfl hdg fun H1 e1 z1 oq => ?_
  refine kk H1 _ (hS.put _ z1 ?_ (hS.wr he (by show ¬ n = 0; omega)) oq)
  show H1[a]? = some (vp_cell _ _)
  rw [e1]
  rw [vp_cell_q, vp_cell_q, arrV_store, iI_clamp ⟨by omega, by omega⟩]
  congr 2
  funext q
  by_cases hq : q = z.toNat
  · subst hq
    simp [updV, va_up, va_rf]
  · simp [updV, va_up, hq]
theorem h_newq (C : tl_C X p s m args c cc own) (hS : tl_S X s σ H locs) {index : Nat} (hclink : Cond.classLink own index "java/lang/Object" ∈ lw_all) {z : Int} (h0 : 0 ≤ z) (h1 : z ≤ 100000) (hcells : cells + 1 ≤ R.cells) (hslots : slots + z.toNat ≤ R.slots) (hdg : decode cc pc = .ok (.anewarray index, 3))
    (kk : ∀ (q : Nat) (H1 : Heap), tl_S X s (va_up σ q (some (oQ (X.2.2.1 3) z.toNat (fun _ => none)))) H1 locs → σ q = none → X.2.1 ≤ q → W p l e R s m args below meth c H1 locs (cells + 1) (slots + z.toNat) Q (F0 m (pc + 3) ls (.ref q :: rest))) : W p l e R s m args below meth c H locs cells slots Q (F0 m pc ls (.int (iI z) :: rest)) := by
  have hcl : (iI z).toNatClampNeg = z.toNat := iI_clamp ⟨by omega, by omega⟩
  have hneg : ¬ iI z < 0 := by
    show ¬ iI z < iI 0
    rw [iI_lt ⟨by omega, by omega⟩ iR_0]
    omega
  refine W.anew C.1 C.2.1 C.2.2.1 (C.2.2.2.1 _ hclink) (va_AO.use C.2.2.2.2.2.1.2.2.2.1) rfl hdg rfl hneg (by rw [hcl]; omega) hcells (by rw [hcl]; exact hslots) fun cA kA comp f1 f2 f3 f4 => ?_
  rw [hcl]
  generalize hH1 : H.push ({ cls := cA, slots := Array.replicate z.toNat .null, vm := .none } : Cell) = H1
  have z1 : H1.size = H.size + 1 := by rw [← hH1, Array.size_push]
  have e1 : H1[H.size]? = some (arrV cA z.toNat (fun _ => .null)) := by rw [← hH1, Array.getElem?_push_size, ← arrV_new]
  have o1 : ∀ q : Nat, q < H.size → H1[q]? = H[q]? := fun q hq => by rw [← hH1, Array.getElem?_push, if_neg (Nat.ne_of_lt hq)]
  obtain ⟨kA', comp', -, -, -, hnm⟩ := (C.2.2.2.2.1.2 3 _ rfl).2
  have hcA : cA = X.2.2.1 3 := Option.some.inj (f1.symm.trans hnm)
  subst hcA
  obtain ⟨g1, g2, g3⟩ := hS.new (e := oQ (X.2.2.1 3) z.toNat (fun _ => none)) z1 (by show H1[H.size]? = some (vp_cell _ _); rw [vp_cell_q]; exact e1) o1
  exact kk H.size H1 g1 g2 g3
theorem h_newi (C : tl_C X p s m args c cc own) (hS : tl_S X s σ H locs) {z : Int} (h0 : 0 ≤ z) (h1 : z ≤ 100000) (hcells : cells + 1 ≤ R.cells) (hslots : slots + z.toNat ≤ R.slots) (hdg : decode cc pc = .ok (.newarray .int, 2))
    (kk : ∀ (q : Nat) (H1 : Heap), tl_S X s (va_up σ q (some (oI (X.2.2.1 0) z.toNat (fun _ => 0)))) H1 locs → σ q = none → X.2.1 ≤ q → W p l e R s m args below meth c H1 locs (cells + 1) (slots + z.toNat) Q (F0 m (pc + 2) ls (.ref q :: rest))) : W p l e R s m args below meth c H locs cells slots Q (F0 m pc ls (.int (iI z) :: rest)) := by
  have hneg : ¬ iI z < 0 := by
    show ¬ iI z < iI 0
    rw [iI_lt ⟨by omega, by omega⟩ iR_0]
    omega
  refine va_newaK (atype := .int) C.1 C.2.1 (C.2.2.2.1 _ q1720) rfl hdg rfl hneg (iI_clamp ⟨by omega, by omega⟩) (by show z.toNat * 4 ≤ 536870912; omega) hcells hslots rfl fun H1 cA e1 z1 o1 hAr hNm => ?_
  have hcA : cA = X.2.2.1 0 := Option.some.inj (hNm.symm.trans (C.2.2.2.2.1.2 0 _ rfl).2)
  subst hcA
  obtain ⟨g1, g2, g3⟩ := hS.new (e := oI (X.2.2.1 0) z.toNat (fun _ => 0)) z1 (by show H1[H.size]? = some (vp_cell _ _); rw [vp_cell_i]; exact e1) o1
  exact kk H.size H1 g1 g2 g3
theorem h_newz (C : tl_C X p s m args c cc own) (hS : tl_S X s σ H locs) {z : Int} (h0 : 0 ≤ z) (h1 : z ≤ 100000) (hcells : cells + 1 ≤ R.cells) (hslots : slots + z.toNat ≤ R.slots) (hdg : decode cc pc = .ok (.newarray .boolean, 2))
    (kk : ∀ (q : Nat) (H1 : Heap), tl_S X s (va_up σ q (some (oI (X.2.2.1 1) z.toNat (fun _ => 0)))) H1 locs → σ q = none → X.2.1 ≤ q → W p l e R s m args below meth c H1 locs (cells + 1) (slots + z.toNat) Q (F0 m (pc + 2) ls (.ref q :: rest))) : W p l e R s m args below meth c H locs cells slots Q (F0 m pc ls (.int (iI z) :: rest)) := by
  have hneg : ¬ iI z < 0 := by
    show ¬ iI z < iI 0
    rw [iI_lt ⟨by omega, by omega⟩ iR_0]
    omega
  refine va_newaK (atype := .boolean) C.1 C.2.1 (C.2.2.2.1 _ q1773) rfl hdg rfl hneg (iI_clamp ⟨by omega, by omega⟩) (by show z.toNat * 1 ≤ 536870912; omega) hcells hslots rfl fun H1 cA e1 z1 o1 hAr hNm => ?_
  have hcA : cA = X.2.2.1 1 := Option.some.inj (hNm.symm.trans (C.2.2.2.2.1.2 1 _ rfl).2)
  subst hcA
  obtain ⟨g1, g2, g3⟩ := hS.new (e := oI (X.2.2.1 1) z.toNat (fun _ => 0)) z1 (by show H1[H.size]? = some (vp_cell _ _); rw [vp_cell_i]; exact e1) o1
  exact kk H.size H1 g1 g2 g3
theorem h_newl (C : tl_C X p s m args c cc own) (hS : tl_S X s σ H locs) {z : Int} (h0 : 0 ≤ z) (h1 : z ≤ 100000) (hcells : cells + 1 ≤ R.cells) (hslots : slots + z.toNat ≤ R.slots) (hdg : decode cc pc = .ok (.newarray .long, 2))
    (kk : ∀ (q : Nat) (H1 : Heap), tl_S X s (va_up σ q (some (oL (X.2.2.1 2) z.toNat (fun _ => 0)))) H1 locs → σ q = none → X.2.1 ≤ q → W p l e R s m args below meth c H1 locs (cells + 1) (slots + z.toNat) Q (F0 m (pc + 2) ls (.ref q :: rest))) : W p l e R s m args below meth c H locs cells slots Q (F0 m pc ls (.int (iI z) :: rest)) := by
  have hneg : ¬ iI z < 0 := by
    show ¬ iI z < iI 0
    rw [iI_lt ⟨by omega, by omega⟩ iR_0]
    omega
  refine va_newaK (atype := .long) C.1 C.2.1 (C.2.2.2.1 _ q1973) rfl hdg rfl hneg (iI_clamp ⟨by omega, by omega⟩) (by show z.toNat * 8 ≤ 536870912; omega) hcells hslots rfl fun H1 cA e1 z1 o1 hAr hNm => ?_
  have hcA : cA = X.2.2.1 2 := Option.some.inj (hNm.symm.trans (C.2.2.2.2.1.2 2 _ rfl).2)
  subst hcA
  obtain ⟨g1, g2, g3⟩ := hS.new (e := oL (X.2.2.1 2) z.toNat (fun _ => 0)) z1 (by show H1[H.size]? = some (vp_cell _ _); rw [vp_cell_l]; exact e1) o1
  exact kk H.size H1 g1 g2 g3
end TR
