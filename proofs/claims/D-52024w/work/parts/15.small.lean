/-! SMALL CLASSES: Stretch, Defect, Part, Piece, Math.max, min (printed by gen_small.py) -/
set_option maxRecDepth 100000
abbrev cSt (f t : Int) : va_E := oO 2 [.int (iI f), .int (iI t)]
abbrev cDe (f t g : Int) : va_E := oO 3 [.int (iI f), .int (iI t), .int (iI g)]
/-- a part: number, length, width, grade, may it be joined, how often it is left -/
abbrev cPa (n ln w g j lf : Int) : va_E := oO 4 [.int (iI n), .int (iI ln), .int (iI w), .int (iI g), .int (iI j), .int (iI lf)]
/-- a piece: from, to, its part, is it joined -/
abbrev cPi (f t : Int) (pt : Nat) (j : Int) : va_E := oO 6 [.int (iI f), .int (iI t), .ref pt, .int (iI j)]
abbrev iS (z : Int) : Prop := -1000000 ≤ z ∧ z ≤ 1000000
theorem gf_X4_7_6 {p : Program} {l : Launch} {e : Env} {R : Room} {s : State} {m : MethodId} {args : Array Value} {below : List Frame} {meth : Method} {c : Code} {H : Heap} {locs : List Loc} {cells slots : Nat} {Q : State → Prop} {cc : ByteArray} {pc : Nat} {ls : Array Slot} {rest : List Value} {X : tl_X} {σ : tl_H} {a : Nat} {fs : List Value} {v : Value} (C : tl_C X p s m args c cc RX4) (hS : tl_S X s σ H locs) (he : σ a = some (oO 6 fs)) (hv : fs[0]? = some v) (hdg : decode cc pc = .ok (.getfield 7, 3)) (kk : W p l e R s m args below meth c H locs cells slots Q (F0 m (pc + 3) ls (v :: rest))) : W p l e R s m args below meth c H locs cells slots Q (F0 m pc ls (.ref a :: rest)) :=
  h_get (ref := "TimberList$Stretch") C hS in_X8 rfl 0 (by decide) q345 (fun _ h => h) he hv hdg kk
theorem gf_X4_13_6 {p : Program} {l : Launch} {e : Env} {R : Room} {s : State} {m : MethodId} {args : Array Value} {below : List Frame} {meth : Method} {c : Code} {H : Heap} {locs : List Loc} {cells slots : Nat} {Q : State → Prop} {cc : ByteArray} {pc : Nat} {ls : Array Slot} {rest : List Value} {X : tl_X} {σ : tl_H} {a : Nat} {fs : List Value} {v : Value} (C : tl_C X p s m args c cc RX4) (hS : tl_S X s σ H locs) (he : σ a = some (oO 6 fs)) (hv : fs[1]? = some v) (hdg : decode cc pc = .ok (.getfield 13, 3)) (kk : W p l e R s m args below meth c H locs cells slots Q (F0 m (pc + 3) ls (v :: rest))) : W p l e R s m args below meth c H locs cells slots Q (F0 m pc ls (.ref a :: rest)) :=
  h_get (ref := "TimberList$Stretch") C hS in_X8 rfl 1 (by decide) q350 (fun _ h => h) he hv hdg kk
set_option maxHeartbeats 4000000 in
theorem m_isNear_pp (l : Launch) (X : tl_X) (σ : tl_H) (a b : Nat) (f1 t1 : Int) (p1 : Nat) (j1 : Int) (f2 t2 : Int) (p2 : Nat) (j2 : Int) (g : Int) (hr : -1000000 ≤ f1 ∧ f1 ≤ 1000000 ∧ -1000000 ≤ t1 ∧ t1 ≤ 1000000 ∧ -1000000 ≤ f2 ∧ f2 ≤ 1000000 ∧ -1000000 ≤ t2 ∧ t2 ≤ 1000000 ∧ -1000000 ≤ g ∧ g ≤ 1000000) (ha : σ a = some (cPi f1 t1 p1 j1)) (hb : σ b = some (cPi f2 t2 p2 j2)) : tl_Met l X yX4_isNear cX4_isNear 3 ((Option.some FieldType.boolean)) 1 (0) (0) [.ref (a), .ref (b), .int (iI (g))] σ (tl_Qi X (fun r σ' => r = iI (tb (decide (f1 < t2 + g ∧ f2 < t1 + g))) ∧ σ = σ')) := by
  refine tl_start (by decide) (Nat.le_of_ble_eq_true rfl) (fun p e s m below meth c ls C hr hml hlk hnm hS hl => ?_)
  have hl : lv_has ls 3 [(0, .ref (a)), (1, .ref (b)), (2, .int (iI (g)))] := hl
  refine lv_aload_n C.1 C.2.1 dX4_isNear_0 rfl (lv_at hl 0 rfl) ?_
  refine gf_X4_7_6 C hS ha rfl dX4_isNear_1 ?_
  refine lv_aload_n C.1 C.2.1 dX4_isNear_4 rfl (lv_at hl 1 rfl) ?_
  refine gf_X4_13_6 C hS hb rfl dX4_isNear_5 ?_
  refine lv_iload_n C.1 C.2.1 dX4_isNear_8 rfl (lv_at hl 2 rfl) ?_
  refine ti_iadd C.1 C.2.1 dX4_isNear_9 ?_
  refine ti_icmp_ge (tgt := 30) C.1 C.2.1 dX4_isNear_10 (by decide) ⟨by omega, by omega⟩ ⟨by omega, by omega⟩ (fun hc_1 => ?_) (fun hc_1 => ?_)
  · skip
    refine ti_const C.1 C.2.1 dX4_isNear_30 ?_
    exact r_z (z := 0) C hr hlk hS (by first | exact tb01 _ | omega | decide) ⟨congrArg iI (tb_f (by omega)).symm, rfl⟩ dX4_isNear_31
  · skip
    refine lv_aload_n C.1 C.2.1 dX4_isNear_13 rfl (lv_at hl 1 rfl) ?_
    refine gf_X4_7_6 C hS hb rfl dX4_isNear_14 ?_
    refine lv_aload_n C.1 C.2.1 dX4_isNear_17 rfl (lv_at hl 0 rfl) ?_
    refine gf_X4_13_6 C hS ha rfl dX4_isNear_18 ?_
    refine lv_iload_n C.1 C.2.1 dX4_isNear_21 rfl (lv_at hl 2 rfl) ?_
    refine ti_iadd C.1 C.2.1 dX4_isNear_22 ?_
    refine ti_icmp_ge (tgt := 30) C.1 C.2.1 dX4_isNear_23 (by decide) ⟨by omega, by omega⟩ ⟨by omega, by omega⟩ (fun hc_2 => ?_) (fun hc_2 => ?_)
    · skip
      refine ti_const C.1 C.2.1 dX4_isNear_30 ?_
      exact r_z (z := 0) C hr hlk hS (by first | exact tb01 _ | omega | decide) ⟨congrArg iI (tb_f (by omega)).symm, rfl⟩ dX4_isNear_31
    · skip
      refine ti_const C.1 C.2.1 dX4_isNear_26 ?_
      refine lv_goto (tgt := 31) C.1 C.2.1 dX4_isNear_27 (by decide) ?_
      exact r_z (z := 1) C hr hlk hS (by first | exact tb01 _ | omega | decide) ⟨congrArg iI (tb_t (by omega)).symm, rfl⟩ dX4_isNear_31

theorem gf_X4_13_3 {p : Program} {l : Launch} {e : Env} {R : Room} {s : State} {m : MethodId} {args : Array Value} {below : List Frame} {meth : Method} {c : Code} {H : Heap} {locs : List Loc} {cells slots : Nat} {Q : State → Prop} {cc : ByteArray} {pc : Nat} {ls : Array Slot} {rest : List Value} {X : tl_X} {σ : tl_H} {a : Nat} {fs : List Value} {v : Value} (C : tl_C X p s m args c cc RX4) (hS : tl_S X s σ H locs) (he : σ a = some (oO 3 fs)) (hv : fs[1]? = some v) (hdg : decode cc pc = .ok (.getfield 13, 3)) (kk : W p l e R s m args below meth c H locs cells slots Q (F0 m (pc + 3) ls (v :: rest))) : W p l e R s m args below meth c H locs cells slots Q (F0 m pc ls (.ref a :: rest)) :=
  h_get (ref := "TimberList$Stretch") C hS in_X5 rfl 1 (by decide) q350 (fun _ h => h) he hv hdg kk
theorem gf_X4_7_3 {p : Program} {l : Launch} {e : Env} {R : Room} {s : State} {m : MethodId} {args : Array Value} {below : List Frame} {meth : Method} {c : Code} {H : Heap} {locs : List Loc} {cells slots : Nat} {Q : State → Prop} {cc : ByteArray} {pc : Nat} {ls : Array Slot} {rest : List Value} {X : tl_X} {σ : tl_H} {a : Nat} {fs : List Value} {v : Value} (C : tl_C X p s m args c cc RX4) (hS : tl_S X s σ H locs) (he : σ a = some (oO 3 fs)) (hv : fs[0]? = some v) (hdg : decode cc pc = .ok (.getfield 7, 3)) (kk : W p l e R s m args below meth c H locs cells slots Q (F0 m (pc + 3) ls (v :: rest))) : W p l e R s m args below meth c H locs cells slots Q (F0 m pc ls (.ref a :: rest)) :=
  h_get (ref := "TimberList$Stretch") C hS in_X5 rfl 0 (by decide) q345 (fun _ h => h) he hv hdg kk
set_option maxHeartbeats 4000000 in
theorem m_isNear_pd (l : Launch) (X : tl_X) (σ : tl_H) (a b : Nat) (f1 t1 : Int) (p1 : Nat) (j1 : Int) (f2 t2 g2 : Int) (g : Int) (hr : -1000000 ≤ f1 ∧ f1 ≤ 1000000 ∧ -1000000 ≤ t1 ∧ t1 ≤ 1000000 ∧ -1000000 ≤ f2 ∧ f2 ≤ 1000000 ∧ -1000000 ≤ t2 ∧ t2 ≤ 1000000 ∧ -1000000 ≤ g ∧ g ≤ 1000000) (ha : σ a = some (cPi f1 t1 p1 j1)) (hb : σ b = some (cDe f2 t2 g2)) : tl_Met l X yX4_isNear cX4_isNear 3 ((Option.some FieldType.boolean)) 1 (0) (0) [.ref (a), .ref (b), .int (iI (g))] σ (tl_Qi X (fun r σ' => r = iI (tb (decide (f1 < t2 + g ∧ f2 < t1 + g))) ∧ σ = σ')) := by
  refine tl_start (by decide) (Nat.le_of_ble_eq_true rfl) (fun p e s m below meth c ls C hr hml hlk hnm hS hl => ?_)
  have hl : lv_has ls 3 [(0, .ref (a)), (1, .ref (b)), (2, .int (iI (g)))] := hl
  refine lv_aload_n C.1 C.2.1 dX4_isNear_0 rfl (lv_at hl 0 rfl) ?_
  refine gf_X4_7_6 C hS ha rfl dX4_isNear_1 ?_
  refine lv_aload_n C.1 C.2.1 dX4_isNear_4 rfl (lv_at hl 1 rfl) ?_
  refine gf_X4_13_3 C hS hb rfl dX4_isNear_5 ?_
  refine lv_iload_n C.1 C.2.1 dX4_isNear_8 rfl (lv_at hl 2 rfl) ?_
  refine ti_iadd C.1 C.2.1 dX4_isNear_9 ?_
  refine ti_icmp_ge (tgt := 30) C.1 C.2.1 dX4_isNear_10 (by decide) ⟨by omega, by omega⟩ ⟨by omega, by omega⟩ (fun hc_1 => ?_) (fun hc_1 => ?_)
  · skip
    refine ti_const C.1 C.2.1 dX4_isNear_30 ?_
    exact r_z (z := 0) C hr hlk hS (by first | exact tb01 _ | omega | decide) ⟨congrArg iI (tb_f (by omega)).symm, rfl⟩ dX4_isNear_31
  · skip
    refine lv_aload_n C.1 C.2.1 dX4_isNear_13 rfl (lv_at hl 1 rfl) ?_
    refine gf_X4_7_3 C hS hb rfl dX4_isNear_14 ?_
    refine lv_aload_n C.1 C.2.1 dX4_isNear_17 rfl (lv_at hl 0 rfl) ?_
    refine gf_X4_13_6 C hS ha rfl dX4_isNear_18 ?_
    refine lv_iload_n C.1 C.2.1 dX4_isNear_21 rfl (lv_at hl 2 rfl) ?_
    refine ti_iadd C.1 C.2.1 dX4_isNear_22 ?_
    refine ti_icmp_ge (tgt := 30) C.1 C.2.1 dX4_isNear_23 (by decide) ⟨by omega, by omega⟩ ⟨by omega, by omega⟩ (fun hc_2 => ?_) (fun hc_2 => ?_)
    · skip
      refine ti_const C.1 C.2.1 dX4_isNear_30 ?_
      exact r_z (z := 0) C hr hlk hS (by first | exact tb01 _ | omega | decide) ⟨congrArg iI (tb_f (by omega)).symm, rfl⟩ dX4_isNear_31
    · skip
      refine ti_const C.1 C.2.1 dX4_isNear_26 ?_
      refine lv_goto (tgt := 31) C.1 C.2.1 dX4_isNear_27 (by decide) ?_
      exact r_z (z := 1) C hr hlk hS (by first | exact tb01 _ | omega | decide) ⟨congrArg iI (tb_t (by omega)).symm, rfl⟩ dX4_isNear_31

set_option maxHeartbeats 4000000 in
theorem m_has (l : Launch) (X : tl_X) (σ : tl_H) (a : Nat) (f1 t1 g1 : Int) (z : Int) (hr : -1000000 ≤ f1 ∧ f1 ≤ 1000000 ∧ -1000000 ≤ t1 ∧ t1 ≤ 1000000 ∧ -1000000 ≤ z ∧ z ≤ 1000000) (ha : σ a = some (cDe f1 t1 g1)) : tl_Met l X yX4_has cX4_has 2 ((Option.some FieldType.boolean)) 1 (0) (0) [.ref (a), .int (iI (z))] σ (tl_Qi X (fun r σ' => r = iI (tb (decide (f1 ≤ z ∧ z < t1))) ∧ σ = σ')) := by
  refine tl_start (by decide) (Nat.le_of_ble_eq_true rfl) (fun p e s m below meth c ls C hr hml hlk hnm hS hl => ?_)
  have hl : lv_has ls 2 [(0, .ref (a)), (1, .int (iI (z)))] := hl
  refine lv_iload_n C.1 C.2.1 dX4_has_0 rfl (lv_at hl 1 rfl) ?_
  refine lv_aload_n C.1 C.2.1 dX4_has_1 rfl (lv_at hl 0 rfl) ?_
  refine gf_X4_7_3 C hS ha rfl dX4_has_2 ?_
  refine ti_icmp_lt (tgt := 20) C.1 C.2.1 dX4_has_5 (by decide) ⟨by omega, by omega⟩ ⟨by omega, by omega⟩ (fun hc_1 => ?_) (fun hc_1 => ?_)
  · skip
    refine ti_const C.1 C.2.1 dX4_has_20 ?_
    exact r_z (z := 0) C hr hlk hS (by first | exact tb01 _ | omega | decide) ⟨congrArg iI (tb_f (by omega)).symm, rfl⟩ dX4_has_21
  · skip
    refine lv_iload_n C.1 C.2.1 dX4_has_8 rfl (lv_at hl 1 rfl) ?_
    refine lv_aload_n C.1 C.2.1 dX4_has_9 rfl (lv_at hl 0 rfl) ?_
    refine gf_X4_13_3 C hS ha rfl dX4_has_10 ?_
    refine ti_icmp_ge (tgt := 20) C.1 C.2.1 dX4_has_13 (by decide) ⟨by omega, by omega⟩ ⟨by omega, by omega⟩ (fun hc_2 => ?_) (fun hc_2 => ?_)
    · skip
      refine ti_const C.1 C.2.1 dX4_has_20 ?_
      exact r_z (z := 0) C hr hlk hS (by first | exact tb01 _ | omega | decide) ⟨congrArg iI (tb_f (by omega)).symm, rfl⟩ dX4_has_21
    · skip
      refine ti_const C.1 C.2.1 dX4_has_16 ?_
      refine lv_goto (tgt := 21) C.1 C.2.1 dX4_has_17 (by decide) ?_
      exact r_z (z := 1) C hr hlk hS (by first | exact tb01 _ | omega | decide) ⟨congrArg iI (tb_t (by omega)).symm, rfl⟩ dX4_has_21

set_option maxHeartbeats 4000000 in
theorem m_length (l : Launch) (X : tl_X) (σ : tl_H) (a : Nat) (f1 t1 : Int) (p1 : Nat) (j1 : Int) (ha : σ a = some (cPi f1 t1 p1 j1)) : tl_Met l X yX4_length cX4_length 1 ((Option.some FieldType.int)) 1 (0) (0) [.ref (a)] σ (tl_Qi X (fun r σ' => r = iI (t1 - f1) ∧ σ = σ')) := by
  refine tl_start (by decide) (Nat.le_of_ble_eq_true rfl) (fun p e s m below meth c ls C hr hml hlk hnm hS hl => ?_)
  have hl : lv_has ls 1 [(0, .ref (a))] := hl
  refine lv_aload_n C.1 C.2.1 dX4_length_0 rfl (lv_at hl 0 rfl) ?_
  refine gf_X4_13_6 C hS ha rfl dX4_length_1 ?_
  refine lv_aload_n C.1 C.2.1 dX4_length_4 rfl (lv_at hl 0 rfl) ?_
  refine gf_X4_7_6 C hS ha rfl dX4_length_5 ?_
  refine ti_isub C.1 C.2.1 dX4_length_8 ?_
  exact r_i C hr hlk hS ⟨rfl, rfl⟩ dX4_length_9

theorem gq_X4_7_2 {p : Program} {l : Launch} {e : Env} {R : Room} {s : State} {m : MethodId} {args : Array Value} {below : List Frame} {meth : Method} {c : Code} {H : Heap} {locs : List Loc} {cells slots : Nat} {Q : State → Prop} {cc : ByteArray} {pc : Nat} {ls : Array Slot} {rest : List Value} {X : tl_X} {σ : tl_H} {a : Nat} {fs : List Value} {v : Value} (C : tl_C X p s m args c cc RX4) (hin : meth.name = "<init>") (hS : tl_S X s σ H locs) (hw : X.2.1 ≤ a) (he : σ a = some (oO 2 fs)) (hn : narrow (tyX4 0) v = v) (hfit : fits (tyX4 0) v = true) (hl : 0 < fs.length) (hdg : decode cc pc = .ok (.putfield 7, 3)) (kk : ∀ (H1 : Heap) (locs1 : List Loc), tl_S X s (va_up σ a (some (oO 2 (fs.set 0 v)))) H1 locs1 → W p l e R s m args below meth c H1 locs1 cells slots Q (F0 m (pc + 3) ls rest)) : W p l e R s m args below meth c H locs cells slots Q (F0 m pc ls (v :: .ref a :: rest)) :=
  h_putF (ref := "TimberList$Stretch") C hin hS in_X4 tyX4 tyX4_ok nmX4 rfl 0 (by decide) q345 (fun _ h => h) rfl rfl hw he hn hfit hl hdg kk
theorem gq_X4_13_2 {p : Program} {l : Launch} {e : Env} {R : Room} {s : State} {m : MethodId} {args : Array Value} {below : List Frame} {meth : Method} {c : Code} {H : Heap} {locs : List Loc} {cells slots : Nat} {Q : State → Prop} {cc : ByteArray} {pc : Nat} {ls : Array Slot} {rest : List Value} {X : tl_X} {σ : tl_H} {a : Nat} {fs : List Value} {v : Value} (C : tl_C X p s m args c cc RX4) (hin : meth.name = "<init>") (hS : tl_S X s σ H locs) (hw : X.2.1 ≤ a) (he : σ a = some (oO 2 fs)) (hn : narrow (tyX4 1) v = v) (hfit : fits (tyX4 1) v = true) (hl : 1 < fs.length) (hdg : decode cc pc = .ok (.putfield 13, 3)) (kk : ∀ (H1 : Heap) (locs1 : List Loc), tl_S X s (va_up σ a (some (oO 2 (fs.set 1 v)))) H1 locs1 → W p l e R s m args below meth c H1 locs1 cells slots Q (F0 m (pc + 3) ls rest)) : W p l e R s m args below meth c H locs cells slots Q (F0 m pc ls (v :: .ref a :: rest)) :=
  h_putF (ref := "TimberList$Stretch") C hin hS in_X4 tyX4 tyX4_ok nmX4 rfl 1 (by decide) q350 (fun _ h => h) rfl rfl hw he hn hfit hl hdg kk
set_option maxHeartbeats 4000000 in
theorem m_St_init_s (l : Launch) (X : tl_X) (σ : tl_H) (a : Nat) (x0 x1 : Int) (f t : Int) (hw : X.2.1 ≤ a) (ha : σ a = some (cSt x0 x1)) : tl_Met l X yX4_init cX4_init 3 ((Option.none : Option FieldType)) 1 (0) (0) [.ref (a), .int (iI (f)), .int (iI (t))] σ (tl_Qv X (fun σ' => σ' = va_up σ a (some (cSt f t)))) := by
  refine tl_start (by decide) (Nat.le_of_ble_eq_true rfl) (fun p e s m below meth c ls C hr hml hlk hnm hS hl => ?_)
  have hl : lv_has ls 3 [(0, .ref (a)), (1, .int (iI (f))), (2, .int (iI (t)))] := hl
  refine lv_aload_n C.1 C.2.1 dX4_init_0 rfl (lv_at hl 0 rfl) ?_
  refine h_obj C hml hl.1 q344 dX4_init_1 (by show 1 ≤ 1; decide) (by show 40 ≤ 40 * 1; decide) (Nat.le_of_ble_eq_true rfl) ?_
  refine lv_aload_n C.1 C.2.1 dX4_init_4 rfl (lv_at hl 0 rfl) ?_
  refine lv_iload_n C.1 C.2.1 dX4_init_5 rfl (lv_at hl 1 rfl) ?_
  refine gq_X4_7_2 C hnm hS hw ha rfl rfl (Nat.le_of_ble_eq_true rfl) dX4_init_6 (fun H locs hS => ?_)
  obtain ⟨σ_1, eσ_1⟩ : ∃ z, z = va_up σ (a) (some (oO 2 [.int (iI (f)), .int (iI (x1))])) := ⟨_, rfl⟩
  have hS : tl_S X s σ_1 H locs := by rw [eσ_1]; exact hS
  have he_2 : σ_1 (a) = some (oO 2 [.int (iI (f)), .int (iI (x1))]) := by rw [eσ_1]; exact up_s
  refine lv_aload_n C.1 C.2.1 dX4_init_9 rfl (lv_at hl 0 rfl) ?_
  refine lv_iload_n C.1 C.2.1 dX4_init_10 rfl (lv_at hl 2 rfl) ?_
  refine gq_X4_13_2 C hnm hS hw he_2 rfl rfl (Nat.le_of_ble_eq_true rfl) dX4_init_11 (fun H locs hS => ?_)
  obtain ⟨σ_3, eσ_3⟩ : ∃ z, z = va_up σ_1 (a) (some (oO 2 [.int (iI (f)), .int (iI (t))])) := ⟨_, rfl⟩
  have hS : tl_S X s σ_3 H locs := by rw [eσ_3]; exact hS
  have he_4 : σ_3 (a) = some (oO 2 [.int (iI (f)), .int (iI (t))]) := by rw [eσ_3]; exact up_s
  exact r_v C hr hlk hS (by rw [eσ_3, eσ_1, up_uu]) dX4_init_14

theorem gq_X4_7_3 {p : Program} {l : Launch} {e : Env} {R : Room} {s : State} {m : MethodId} {args : Array Value} {below : List Frame} {meth : Method} {c : Code} {H : Heap} {locs : List Loc} {cells slots : Nat} {Q : State → Prop} {cc : ByteArray} {pc : Nat} {ls : Array Slot} {rest : List Value} {X : tl_X} {σ : tl_H} {a : Nat} {fs : List Value} {v : Value} (C : tl_C X p s m args c cc RX4) (hin : meth.name = "<init>") (hS : tl_S X s σ H locs) (hw : X.2.1 ≤ a) (he : σ a = some (oO 3 fs)) (hn : narrow (tyX5 0) v = v) (hfit : fits (tyX5 0) v = true) (hl : 0 < fs.length) (hdg : decode cc pc = .ok (.putfield 7, 3)) (kk : ∀ (H1 : Heap) (locs1 : List Loc), tl_S X s (va_up σ a (some (oO 3 (fs.set 0 v)))) H1 locs1 → W p l e R s m args below meth c H1 locs1 cells slots Q (F0 m (pc + 3) ls rest)) : W p l e R s m args below meth c H locs cells slots Q (F0 m pc ls (v :: .ref a :: rest)) :=
  h_putF (ref := "TimberList$Stretch") C hin hS in_X5 tyX5 tyX5_ok nmX5 rfl 0 (by decide) q345 (fun _ h => h) rfl rfl hw he hn hfit hl hdg kk
theorem gq_X4_13_3 {p : Program} {l : Launch} {e : Env} {R : Room} {s : State} {m : MethodId} {args : Array Value} {below : List Frame} {meth : Method} {c : Code} {H : Heap} {locs : List Loc} {cells slots : Nat} {Q : State → Prop} {cc : ByteArray} {pc : Nat} {ls : Array Slot} {rest : List Value} {X : tl_X} {σ : tl_H} {a : Nat} {fs : List Value} {v : Value} (C : tl_C X p s m args c cc RX4) (hin : meth.name = "<init>") (hS : tl_S X s σ H locs) (hw : X.2.1 ≤ a) (he : σ a = some (oO 3 fs)) (hn : narrow (tyX5 1) v = v) (hfit : fits (tyX5 1) v = true) (hl : 1 < fs.length) (hdg : decode cc pc = .ok (.putfield 13, 3)) (kk : ∀ (H1 : Heap) (locs1 : List Loc), tl_S X s (va_up σ a (some (oO 3 (fs.set 1 v)))) H1 locs1 → W p l e R s m args below meth c H1 locs1 cells slots Q (F0 m (pc + 3) ls rest)) : W p l e R s m args below meth c H locs cells slots Q (F0 m pc ls (v :: .ref a :: rest)) :=
  h_putF (ref := "TimberList$Stretch") C hin hS in_X5 tyX5 tyX5_ok nmX5 rfl 1 (by decide) q350 (fun _ h => h) rfl rfl hw he hn hfit hl hdg kk
set_option maxHeartbeats 4000000 in
theorem m_St_init_d (l : Launch) (X : tl_X) (σ : tl_H) (a : Nat) (x0 x1 x2 : Int) (f t : Int) (hw : X.2.1 ≤ a) (ha : σ a = some (cDe x0 x1 x2)) : tl_Met l X yX4_init cX4_init 3 ((Option.none : Option FieldType)) 1 (0) (0) [.ref (a), .int (iI (f)), .int (iI (t))] σ (tl_Qv X (fun σ' => σ' = va_up σ a (some (cDe f t x2)))) := by
  refine tl_start (by decide) (Nat.le_of_ble_eq_true rfl) (fun p e s m below meth c ls C hr hml hlk hnm hS hl => ?_)
  have hl : lv_has ls 3 [(0, .ref (a)), (1, .int (iI (f))), (2, .int (iI (t)))] := hl
  refine lv_aload_n C.1 C.2.1 dX4_init_0 rfl (lv_at hl 0 rfl) ?_
  refine h_obj C hml hl.1 q344 dX4_init_1 (by show 1 ≤ 1; decide) (by show 40 ≤ 40 * 1; decide) (Nat.le_of_ble_eq_true rfl) ?_
  refine lv_aload_n C.1 C.2.1 dX4_init_4 rfl (lv_at hl 0 rfl) ?_
  refine lv_iload_n C.1 C.2.1 dX4_init_5 rfl (lv_at hl 1 rfl) ?_
  refine gq_X4_7_3 C hnm hS hw ha rfl rfl (Nat.le_of_ble_eq_true rfl) dX4_init_6 (fun H locs hS => ?_)
  obtain ⟨σ_1, eσ_1⟩ : ∃ z, z = va_up σ (a) (some (oO 3 [.int (iI (f)), .int (iI (x1)), .int (iI (x2))])) := ⟨_, rfl⟩
  have hS : tl_S X s σ_1 H locs := by rw [eσ_1]; exact hS
  have he_2 : σ_1 (a) = some (oO 3 [.int (iI (f)), .int (iI (x1)), .int (iI (x2))]) := by rw [eσ_1]; exact up_s
  refine lv_aload_n C.1 C.2.1 dX4_init_9 rfl (lv_at hl 0 rfl) ?_
  refine lv_iload_n C.1 C.2.1 dX4_init_10 rfl (lv_at hl 2 rfl) ?_
  refine gq_X4_13_3 C hnm hS hw he_2 rfl rfl (Nat.le_of_ble_eq_true rfl) dX4_init_11 (fun H locs hS => ?_)
  obtain ⟨σ_3, eσ_3⟩ : ∃ z, z = va_up σ_1 (a) (some (oO 3 [.int (iI (f)), .int (iI (t)), .int (iI (x2))])) := ⟨_, rfl⟩
  have hS : tl_S X s σ_3 H locs := by rw [eσ_3]; exact hS
  have he_4 : σ_3 (a) = some (oO 3 [.int (iI (f)), .int (iI (t)), .int (iI (x2))]) := by rw [eσ_3]; exact up_s
  exact r_v C hr hlk hS (by rw [eσ_3, eσ_1, up_uu]) dX4_init_14

theorem gq_X4_7_6 {p : Program} {l : Launch} {e : Env} {R : Room} {s : State} {m : MethodId} {args : Array Value} {below : List Frame} {meth : Method} {c : Code} {H : Heap} {locs : List Loc} {cells slots : Nat} {Q : State → Prop} {cc : ByteArray} {pc : Nat} {ls : Array Slot} {rest : List Value} {X : tl_X} {σ : tl_H} {a : Nat} {fs : List Value} {v : Value} (C : tl_C X p s m args c cc RX4) (hin : meth.name = "<init>") (hS : tl_S X s σ H locs) (hw : X.2.1 ≤ a) (he : σ a = some (oO 6 fs)) (hn : narrow (tyX8 0) v = v) (hfit : fits (tyX8 0) v = true) (hl : 0 < fs.length) (hdg : decode cc pc = .ok (.putfield 7, 3)) (kk : ∀ (H1 : Heap) (locs1 : List Loc), tl_S X s (va_up σ a (some (oO 6 (fs.set 0 v)))) H1 locs1 → W p l e R s m args below meth c H1 locs1 cells slots Q (F0 m (pc + 3) ls rest)) : W p l e R s m args below meth c H locs cells slots Q (F0 m pc ls (v :: .ref a :: rest)) :=
  h_putF (ref := "TimberList$Stretch") C hin hS in_X8 tyX8 tyX8_ok nmX8 rfl 0 (by decide) q345 (fun _ h => h) rfl rfl hw he hn hfit hl hdg kk
theorem gq_X4_13_6 {p : Program} {l : Launch} {e : Env} {R : Room} {s : State} {m : MethodId} {args : Array Value} {below : List Frame} {meth : Method} {c : Code} {H : Heap} {locs : List Loc} {cells slots : Nat} {Q : State → Prop} {cc : ByteArray} {pc : Nat} {ls : Array Slot} {rest : List Value} {X : tl_X} {σ : tl_H} {a : Nat} {fs : List Value} {v : Value} (C : tl_C X p s m args c cc RX4) (hin : meth.name = "<init>") (hS : tl_S X s σ H locs) (hw : X.2.1 ≤ a) (he : σ a = some (oO 6 fs)) (hn : narrow (tyX8 1) v = v) (hfit : fits (tyX8 1) v = true) (hl : 1 < fs.length) (hdg : decode cc pc = .ok (.putfield 13, 3)) (kk : ∀ (H1 : Heap) (locs1 : List Loc), tl_S X s (va_up σ a (some (oO 6 (fs.set 1 v)))) H1 locs1 → W p l e R s m args below meth c H1 locs1 cells slots Q (F0 m (pc + 3) ls rest)) : W p l e R s m args below meth c H locs cells slots Q (F0 m pc ls (v :: .ref a :: rest)) :=
  h_putF (ref := "TimberList$Stretch") C hin hS in_X8 tyX8 tyX8_ok nmX8 rfl 1 (by decide) q350 (fun _ h => h) rfl rfl hw he hn hfit hl hdg kk
set_option maxHeartbeats 4000000 in
theorem m_St_init_p (l : Launch) (X : tl_X) (σ : tl_H) (a : Nat) (x0 x1 x3 : Int) (f t : Int) (hw : X.2.1 ≤ a) (ha : σ a = some (oO 6 [.int (iI x0), .int (iI x1), .null, .int (iI x3)])) : tl_Met l X yX4_init cX4_init 3 ((Option.none : Option FieldType)) 1 (0) (0) [.ref (a), .int (iI (f)), .int (iI (t))] σ (tl_Qv X (fun σ' => σ' = va_up σ a (some (oO 6 [.int (iI f), .int (iI t), .null, .int (iI x3)])))) := by
  refine tl_start (by decide) (Nat.le_of_ble_eq_true rfl) (fun p e s m below meth c ls C hr hml hlk hnm hS hl => ?_)
  have hl : lv_has ls 3 [(0, .ref (a)), (1, .int (iI (f))), (2, .int (iI (t)))] := hl
  refine lv_aload_n C.1 C.2.1 dX4_init_0 rfl (lv_at hl 0 rfl) ?_
  refine h_obj C hml hl.1 q344 dX4_init_1 (by show 1 ≤ 1; decide) (by show 40 ≤ 40 * 1; decide) (Nat.le_of_ble_eq_true rfl) ?_
  refine lv_aload_n C.1 C.2.1 dX4_init_4 rfl (lv_at hl 0 rfl) ?_
  refine lv_iload_n C.1 C.2.1 dX4_init_5 rfl (lv_at hl 1 rfl) ?_
  refine gq_X4_7_6 C hnm hS hw ha rfl rfl (Nat.le_of_ble_eq_true rfl) dX4_init_6 (fun H locs hS => ?_)
  obtain ⟨σ_1, eσ_1⟩ : ∃ z, z = va_up σ (a) (some (oO 6 [.int (iI (f)), .int (iI (x1)), .null, .int (iI (x3))])) := ⟨_, rfl⟩
  have hS : tl_S X s σ_1 H locs := by rw [eσ_1]; exact hS
  have he_2 : σ_1 (a) = some (oO 6 [.int (iI (f)), .int (iI (x1)), .null, .int (iI (x3))]) := by rw [eσ_1]; exact up_s
  refine lv_aload_n C.1 C.2.1 dX4_init_9 rfl (lv_at hl 0 rfl) ?_
  refine lv_iload_n C.1 C.2.1 dX4_init_10 rfl (lv_at hl 2 rfl) ?_
  refine gq_X4_13_6 C hnm hS hw he_2 rfl rfl (Nat.le_of_ble_eq_true rfl) dX4_init_11 (fun H locs hS => ?_)
  obtain ⟨σ_3, eσ_3⟩ : ∃ z, z = va_up σ_1 (a) (some (oO 6 [.int (iI (f)), .int (iI (t)), .null, .int (iI (x3))])) := ⟨_, rfl⟩
  have hS : tl_S X s σ_3 H locs := by rw [eσ_3]; exact hS
  have he_4 : σ_3 (a) = some (oO 6 [.int (iI (f)), .int (iI (t)), .null, .int (iI (x3))]) := by rw [eσ_3]; exact up_s
  exact r_v C hr hlk hS (by rw [eσ_3, eσ_1, up_uu]) dX4_init_14

theorem gq_X5_7_3 {p : Program} {l : Launch} {e : Env} {R : Room} {s : State} {m : MethodId} {args : Array Value} {below : List Frame} {meth : Method} {c : Code} {H : Heap} {locs : List Loc} {cells slots : Nat} {Q : State → Prop} {cc : ByteArray} {pc : Nat} {ls : Array Slot} {rest : List Value} {X : tl_X} {σ : tl_H} {a : Nat} {fs : List Value} {v : Value} (C : tl_C X p s m args c cc RX5) (hin : meth.name = "<init>") (hS : tl_S X s σ H locs) (hw : X.2.1 ≤ a) (he : σ a = some (oO 3 fs)) (hn : narrow (tyX5 2) v = v) (hfit : fits (tyX5 2) v = true) (hl : 2 < fs.length) (hdg : decode cc pc = .ok (.putfield 7, 3)) (kk : ∀ (H1 : Heap) (locs1 : List Loc), tl_S X s (va_up σ a (some (oO 3 (fs.set 2 v)))) H1 locs1 → W p l e R s m args below meth c H1 locs1 cells slots Q (F0 m (pc + 3) ls rest)) : W p l e R s m args below meth c H locs cells slots Q (F0 m pc ls (v :: .ref a :: rest)) :=
  h_putF (ref := "TimberList$Defect") C hin hS in_X5 tyX5 tyX5_ok nmX5 rfl 2 (by decide) q1436 (fun _ h => h) rfl rfl hw he hn hfit hl hdg kk
set_option maxHeartbeats 4000000 in
theorem m_De_init (l : Launch) (X : tl_X) (σ : tl_H) (a : Nat) (f t g : Int) (hw : X.2.1 ≤ a) (ha : σ a = some (cDe 0 0 0)) : tl_Met l X yX5_init cX5_init 4 ((Option.none : Option FieldType)) 2 (0) (0) [.ref (a), .int (iI (f)), .int (iI (t)), .int (iI (g))] σ (tl_Qv X (fun σ' => σ' = va_up σ a (some (cDe f t g)))) := by
  refine tl_start (by decide) (Nat.le_of_ble_eq_true rfl) (fun p e s m below meth c ls C hr hml hlk hnm hS hl => ?_)
  have hl : lv_has ls 4 [(0, .ref (a)), (1, .int (iI (f))), (2, .int (iI (t))), (3, .int (iI (g)))] := hl
  refine lv_aload_n C.1 C.2.1 dX5_init_0 rfl (lv_at hl 0 rfl) ?_
  refine lv_iload_n C.1 C.2.1 dX5_init_1 rfl (lv_at hl 1 rfl) ?_
  refine lv_iload_n C.1 C.2.1 dX5_init_2 rfl (lv_at hl 2 rfl) ?_
  refine tl_cv (t_I (n := 2) C hml hS (m_St_init_d l X σ a 0 0 0 (f) (t) hw ha) q1435 q342 q69 q343 rfl (by decide +kernel) rfl hl.1 rfl (Nat.le_of_ble_eq_true rfl) dX5_init_3 ⟨Nat.le_of_ble_eq_true rfl, Nat.le_of_ble_eq_true rfl⟩ ⟨Nat.le_refl _, Nat.le_refl _⟩) hS (fun σ_3 H locs hP_2 hS => ?_)
  have he_4 : σ_3 (a) = some (oO 3 [.int (iI (f)), .int (iI (t)), .int (iI (0))]) := by rw [hP_2]; exact up_s
  refine lv_aload_n C.1 C.2.1 dX5_init_6 rfl (lv_at hl 0 rfl) ?_
  refine lv_iload_n C.1 C.2.1 dX5_init_7 rfl (lv_at hl 3 rfl) ?_
  refine gq_X5_7_3 C hnm hS hw he_4 rfl rfl (Nat.le_of_ble_eq_true rfl) dX5_init_8 (fun H locs hS => ?_)
  obtain ⟨σ_5, eσ_5⟩ : ∃ z, z = va_up σ_3 (a) (some (oO 3 [.int (iI (f)), .int (iI (t)), .int (iI (g))])) := ⟨_, rfl⟩
  have hS : tl_S X s σ_5 H locs := by rw [eσ_5]; exact hS
  have he_6 : σ_5 (a) = some (oO 3 [.int (iI (f)), .int (iI (t)), .int (iI (g))]) := by rw [eσ_5]; exact up_s
  exact r_v C hr hlk hS (by rw [eσ_5, hP_2, up_uu]) dX5_init_11

theorem gq_X6_7_4 {p : Program} {l : Launch} {e : Env} {R : Room} {s : State} {m : MethodId} {args : Array Value} {below : List Frame} {meth : Method} {c : Code} {H : Heap} {locs : List Loc} {cells slots : Nat} {Q : State → Prop} {cc : ByteArray} {pc : Nat} {ls : Array Slot} {rest : List Value} {X : tl_X} {σ : tl_H} {a : Nat} {fs : List Value} {v : Value} (C : tl_C X p s m args c cc RX6) (hin : meth.name = "<init>") (hS : tl_S X s σ H locs) (hw : X.2.1 ≤ a) (he : σ a = some (oO 4 fs)) (hn : narrow (tyX6 0) v = v) (hfit : fits (tyX6 0) v = true) (hl : 0 < fs.length) (hdg : decode cc pc = .ok (.putfield 7, 3)) (kk : ∀ (H1 : Heap) (locs1 : List Loc), tl_S X s (va_up σ a (some (oO 4 (fs.set 0 v)))) H1 locs1 → W p l e R s m args below meth c H1 locs1 cells slots Q (F0 m (pc + 3) ls rest)) : W p l e R s m args below meth c H locs cells slots Q (F0 m pc ls (v :: .ref a :: rest)) :=
  h_putF (ref := "TimberList$Part") C hin hS in_X6 tyX6 tyX6_ok nmX6 rfl 0 (by decide) q1457 (fun _ h => h) rfl rfl hw he hn hfit hl hdg kk
theorem gq_X6_13_4 {p : Program} {l : Launch} {e : Env} {R : Room} {s : State} {m : MethodId} {args : Array Value} {below : List Frame} {meth : Method} {c : Code} {H : Heap} {locs : List Loc} {cells slots : Nat} {Q : State → Prop} {cc : ByteArray} {pc : Nat} {ls : Array Slot} {rest : List Value} {X : tl_X} {σ : tl_H} {a : Nat} {fs : List Value} {v : Value} (C : tl_C X p s m args c cc RX6) (hin : meth.name = "<init>") (hS : tl_S X s σ H locs) (hw : X.2.1 ≤ a) (he : σ a = some (oO 4 fs)) (hn : narrow (tyX6 1) v = v) (hfit : fits (tyX6 1) v = true) (hl : 1 < fs.length) (hdg : decode cc pc = .ok (.putfield 13, 3)) (kk : ∀ (H1 : Heap) (locs1 : List Loc), tl_S X s (va_up σ a (some (oO 4 (fs.set 1 v)))) H1 locs1 → W p l e R s m args below meth c H1 locs1 cells slots Q (F0 m (pc + 3) ls rest)) : W p l e R s m args below meth c H locs cells slots Q (F0 m pc ls (v :: .ref a :: rest)) :=
  h_putF (ref := "TimberList$Part") C hin hS in_X6 tyX6 tyX6_ok nmX6 rfl 1 (by decide) q1460 (fun _ h => h) rfl rfl hw he hn hfit hl hdg kk
theorem gq_X6_16_4 {p : Program} {l : Launch} {e : Env} {R : Room} {s : State} {m : MethodId} {args : Array Value} {below : List Frame} {meth : Method} {c : Code} {H : Heap} {locs : List Loc} {cells slots : Nat} {Q : State → Prop} {cc : ByteArray} {pc : Nat} {ls : Array Slot} {rest : List Value} {X : tl_X} {σ : tl_H} {a : Nat} {fs : List Value} {v : Value} (C : tl_C X p s m args c cc RX6) (hin : meth.name = "<init>") (hS : tl_S X s σ H locs) (hw : X.2.1 ≤ a) (he : σ a = some (oO 4 fs)) (hn : narrow (tyX6 2) v = v) (hfit : fits (tyX6 2) v = true) (hl : 2 < fs.length) (hdg : decode cc pc = .ok (.putfield 16, 3)) (kk : ∀ (H1 : Heap) (locs1 : List Loc), tl_S X s (va_up σ a (some (oO 4 (fs.set 2 v)))) H1 locs1 → W p l e R s m args below meth c H1 locs1 cells slots Q (F0 m (pc + 3) ls rest)) : W p l e R s m args below meth c H locs cells slots Q (F0 m pc ls (v :: .ref a :: rest)) :=
  h_putF (ref := "TimberList$Part") C hin hS in_X6 tyX6 tyX6_ok nmX6 rfl 2 (by decide) q1463 (fun _ h => h) rfl rfl hw he hn hfit hl hdg kk
theorem gq_X6_19_4 {p : Program} {l : Launch} {e : Env} {R : Room} {s : State} {m : MethodId} {args : Array Value} {below : List Frame} {meth : Method} {c : Code} {H : Heap} {locs : List Loc} {cells slots : Nat} {Q : State → Prop} {cc : ByteArray} {pc : Nat} {ls : Array Slot} {rest : List Value} {X : tl_X} {σ : tl_H} {a : Nat} {fs : List Value} {v : Value} (C : tl_C X p s m args c cc RX6) (hin : meth.name = "<init>") (hS : tl_S X s σ H locs) (hw : X.2.1 ≤ a) (he : σ a = some (oO 4 fs)) (hn : narrow (tyX6 3) v = v) (hfit : fits (tyX6 3) v = true) (hl : 3 < fs.length) (hdg : decode cc pc = .ok (.putfield 19, 3)) (kk : ∀ (H1 : Heap) (locs1 : List Loc), tl_S X s (va_up σ a (some (oO 4 (fs.set 3 v)))) H1 locs1 → W p l e R s m args below meth c H1 locs1 cells slots Q (F0 m (pc + 3) ls rest)) : W p l e R s m args below meth c H locs cells slots Q (F0 m pc ls (v :: .ref a :: rest)) :=
  h_putF (ref := "TimberList$Part") C hin hS in_X6 tyX6 tyX6_ok nmX6 rfl 3 (by decide) q1466 (fun _ h => h) rfl rfl hw he hn hfit hl hdg kk
theorem gq_X6_22_4 {p : Program} {l : Launch} {e : Env} {R : Room} {s : State} {m : MethodId} {args : Array Value} {below : List Frame} {meth : Method} {c : Code} {H : Heap} {locs : List Loc} {cells slots : Nat} {Q : State → Prop} {cc : ByteArray} {pc : Nat} {ls : Array Slot} {rest : List Value} {X : tl_X} {σ : tl_H} {a : Nat} {fs : List Value} {v : Value} (C : tl_C X p s m args c cc RX6) (hin : meth.name = "<init>") (hS : tl_S X s σ H locs) (hw : X.2.1 ≤ a) (he : σ a = some (oO 4 fs)) (hn : narrow (tyX6 4) v = v) (hfit : fits (tyX6 4) v = true) (hl : 4 < fs.length) (hdg : decode cc pc = .ok (.putfield 22, 3)) (kk : ∀ (H1 : Heap) (locs1 : List Loc), tl_S X s (va_up σ a (some (oO 4 (fs.set 4 v)))) H1 locs1 → W p l e R s m args below meth c H1 locs1 cells slots Q (F0 m (pc + 3) ls rest)) : W p l e R s m args below meth c H locs cells slots Q (F0 m pc ls (v :: .ref a :: rest)) :=
  h_putF (ref := "TimberList$Part") C hin hS in_X6 tyX6 tyX6_ok nmX6 rfl 4 (by decide) q1470 (fun _ h => h) rfl rfl hw he hn hfit hl hdg kk
theorem gp_X6_26_4 {p : Program} {l : Launch} {e : Env} {R : Room} {s : State} {m : MethodId} {args : Array Value} {below : List Frame} {meth : Method} {c : Code} {H : Heap} {locs : List Loc} {cells slots : Nat} {Q : State → Prop} {cc : ByteArray} {pc : Nat} {ls : Array Slot} {rest : List Value} {X : tl_X} {σ : tl_H} {a : Nat} {fs : List Value} {v : Value} (C : tl_C X p s m args c cc RX6) (hS : tl_S X s σ H locs) (he : σ a = some (oO 4 fs)) (hn : narrow (tyX6 5) v = v) (hfit : fits (tyX6 5) v = true) (hl : 5 < fs.length) (hdg : decode cc pc = .ok (.putfield 26, 3)) (kk : ∀ (H1 : Heap) (locs1 : List Loc), tl_S X s (va_up σ a (some (oO 4 (fs.set 5 v)))) H1 locs1 → W p l e R s m args below meth c H1 locs1 cells slots Q (F0 m (pc + 3) ls rest)) : W p l e R s m args below meth c H locs cells slots Q (F0 m pc ls (v :: .ref a :: rest)) :=
  h_put (ref := "TimberList$Part") C hS in_X6 tyX6 tyX6_ok nmX6 rfl 5 (by decide) q1472 (fun _ h => h) rfl (by decide) he hn hfit hl hdg kk
set_option maxHeartbeats 4000000 in
theorem m_Pa_init (l : Launch) (X : tl_X) (σ : tl_H) (a : Nat) (n ln w g cn j : Int) (hj : j = 0 ∨ j = 1) (hw : X.2.1 ≤ a) (ha : σ a = some (cPa 0 0 0 0 0 0)) : tl_Met l X yX6_init cX6_init 7 ((Option.none : Option FieldType)) 1 (0) (0) [.ref (a), .int (iI (n)), .int (iI (ln)), .int (iI (w)), .int (iI (g)), .int (iI (cn)), .int (iI (j))] σ (tl_Qv X (fun σ' => σ' = va_up σ a (some (cPa n ln w g j cn)))) := by
  refine tl_start (by decide) (Nat.le_of_ble_eq_true rfl) (fun p e s m below meth c ls C hr hml hlk hnm hS hl => ?_)
  have hl : lv_has ls 7 [(0, .ref (a)), (1, .int (iI (n))), (2, .int (iI (ln))), (3, .int (iI (w))), (4, .int (iI (g))), (5, .int (iI (cn))), (6, .int (iI (j)))] := hl
  refine lv_aload_n C.1 C.2.1 dX6_init_0 rfl (lv_at hl 0 rfl) ?_
  refine h_obj C hml hl.1 q1456 dX6_init_1 (by show 1 ≤ 1; decide) (by show 40 ≤ 40 * 1; decide) (Nat.le_of_ble_eq_true rfl) ?_
  refine lv_aload_n C.1 C.2.1 dX6_init_4 rfl (lv_at hl 0 rfl) ?_
  refine lv_iload_n C.1 C.2.1 dX6_init_5 rfl (lv_at hl 1 rfl) ?_
  refine gq_X6_7_4 C hnm hS hw ha rfl rfl (Nat.le_of_ble_eq_true rfl) dX6_init_6 (fun H locs hS => ?_)
  obtain ⟨σ_1, eσ_1⟩ : ∃ z, z = va_up σ (a) (some (oO 4 [.int (iI (n)), .int (iI (0)), .int (iI (0)), .int (iI (0)), .int (iI (0)), .int (iI (0))])) := ⟨_, rfl⟩
  have hS : tl_S X s σ_1 H locs := by rw [eσ_1]; exact hS
  have he_2 : σ_1 (a) = some (oO 4 [.int (iI (n)), .int (iI (0)), .int (iI (0)), .int (iI (0)), .int (iI (0)), .int (iI (0))]) := by rw [eσ_1]; exact up_s
  refine lv_aload_n C.1 C.2.1 dX6_init_9 rfl (lv_at hl 0 rfl) ?_
  refine lv_iload_n C.1 C.2.1 dX6_init_10 rfl (lv_at hl 2 rfl) ?_
  refine gq_X6_13_4 C hnm hS hw he_2 rfl rfl (Nat.le_of_ble_eq_true rfl) dX6_init_11 (fun H locs hS => ?_)
  obtain ⟨σ_3, eσ_3⟩ : ∃ z, z = va_up σ_1 (a) (some (oO 4 [.int (iI (n)), .int (iI (ln)), .int (iI (0)), .int (iI (0)), .int (iI (0)), .int (iI (0))])) := ⟨_, rfl⟩
  have hS : tl_S X s σ_3 H locs := by rw [eσ_3]; exact hS
  have he_4 : σ_3 (a) = some (oO 4 [.int (iI (n)), .int (iI (ln)), .int (iI (0)), .int (iI (0)), .int (iI (0)), .int (iI (0))]) := by rw [eσ_3]; exact up_s
  refine lv_aload_n C.1 C.2.1 dX6_init_14 rfl (lv_at hl 0 rfl) ?_
  refine lv_iload_n C.1 C.2.1 dX6_init_15 rfl (lv_at hl 3 rfl) ?_
  refine gq_X6_16_4 C hnm hS hw he_4 rfl rfl (Nat.le_of_ble_eq_true rfl) dX6_init_16 (fun H locs hS => ?_)
  obtain ⟨σ_5, eσ_5⟩ : ∃ z, z = va_up σ_3 (a) (some (oO 4 [.int (iI (n)), .int (iI (ln)), .int (iI (w)), .int (iI (0)), .int (iI (0)), .int (iI (0))])) := ⟨_, rfl⟩
  have hS : tl_S X s σ_5 H locs := by rw [eσ_5]; exact hS
  have he_6 : σ_5 (a) = some (oO 4 [.int (iI (n)), .int (iI (ln)), .int (iI (w)), .int (iI (0)), .int (iI (0)), .int (iI (0))]) := by rw [eσ_5]; exact up_s
  refine lv_aload_n C.1 C.2.1 dX6_init_19 rfl (lv_at hl 0 rfl) ?_
  refine lv_iload C.1 C.2.1 dX6_init_20 (lv_at hl 4 rfl) ?_
  refine gq_X6_19_4 C hnm hS hw he_6 rfl rfl (Nat.le_of_ble_eq_true rfl) dX6_init_22 (fun H locs hS => ?_)
  obtain ⟨σ_7, eσ_7⟩ : ∃ z, z = va_up σ_5 (a) (some (oO 4 [.int (iI (n)), .int (iI (ln)), .int (iI (w)), .int (iI (g)), .int (iI (0)), .int (iI (0))])) := ⟨_, rfl⟩
  have hS : tl_S X s σ_7 H locs := by rw [eσ_7]; exact hS
  have he_8 : σ_7 (a) = some (oO 4 [.int (iI (n)), .int (iI (ln)), .int (iI (w)), .int (iI (g)), .int (iI (0)), .int (iI (0))]) := by rw [eσ_7]; exact up_s
  refine lv_aload_n C.1 C.2.1 dX6_init_25 rfl (lv_at hl 0 rfl) ?_
  refine lv_iload C.1 C.2.1 dX6_init_26 (lv_at hl 6 rfl) ?_
  refine gq_X6_22_4 C hnm hS hw he_8 (iI_bit (by omega)) (iI_fitb (by omega)) (Nat.le_of_ble_eq_true rfl) dX6_init_28 (fun H locs hS => ?_)
  obtain ⟨σ_9, eσ_9⟩ : ∃ z, z = va_up σ_7 (a) (some (oO 4 [.int (iI (n)), .int (iI (ln)), .int (iI (w)), .int (iI (g)), .int (iI (j)), .int (iI (0))])) := ⟨_, rfl⟩
  have hS : tl_S X s σ_9 H locs := by rw [eσ_9]; exact hS
  have he_10 : σ_9 (a) = some (oO 4 [.int (iI (n)), .int (iI (ln)), .int (iI (w)), .int (iI (g)), .int (iI (j)), .int (iI (0))]) := by rw [eσ_9]; exact up_s
  refine lv_aload_n C.1 C.2.1 dX6_init_31 rfl (lv_at hl 0 rfl) ?_
  refine lv_iload C.1 C.2.1 dX6_init_32 (lv_at hl 5 rfl) ?_
  refine gp_X6_26_4 C hS he_10 rfl rfl (Nat.le_of_ble_eq_true rfl) dX6_init_34 (fun H locs hS => ?_)
  obtain ⟨σ_11, eσ_11⟩ : ∃ z, z = va_up σ_9 (a) (some (oO 4 [.int (iI (n)), .int (iI (ln)), .int (iI (w)), .int (iI (g)), .int (iI (j)), .int (iI (cn))])) := ⟨_, rfl⟩
  have hS : tl_S X s σ_11 H locs := by rw [eσ_11]; exact hS
  have he_12 : σ_11 (a) = some (oO 4 [.int (iI (n)), .int (iI (ln)), .int (iI (w)), .int (iI (g)), .int (iI (j)), .int (iI (cn))]) := by rw [eσ_11]; exact up_s
  exact r_v C hr hlk hS (by rw [eσ_11, eσ_9, eσ_7, eσ_5, eσ_3, eσ_1, up_uu, up_uu, up_uu, up_uu, up_uu]) dX6_init_37

theorem gq_X8_7_6 {p : Program} {l : Launch} {e : Env} {R : Room} {s : State} {m : MethodId} {args : Array Value} {below : List Frame} {meth : Method} {c : Code} {H : Heap} {locs : List Loc} {cells slots : Nat} {Q : State → Prop} {cc : ByteArray} {pc : Nat} {ls : Array Slot} {rest : List Value} {X : tl_X} {σ : tl_H} {a : Nat} {fs : List Value} {v : Value} (C : tl_C X p s m args c cc RX8) (hin : meth.name = "<init>") (hS : tl_S X s σ H locs) (hw : X.2.1 ≤ a) (he : σ a = some (oO 6 fs)) (hn : narrow (tyX8 2) v = v) (hfit : fits (tyX8 2) v = true) (hl : 2 < fs.length) (hdg : decode cc pc = .ok (.putfield 7, 3)) (kk : ∀ (H1 : Heap) (locs1 : List Loc), tl_S X s (va_up σ a (some (oO 6 (fs.set 2 v)))) H1 locs1 → W p l e R s m args below meth c H1 locs1 cells slots Q (F0 m (pc + 3) ls rest)) : W p l e R s m args below meth c H locs cells slots Q (F0 m pc ls (v :: .ref a :: rest)) :=
  h_putF (ref := "TimberList$Piece") C hin hS in_X8 tyX8 tyX8_ok nmX8 rfl 2 (by decide) q886 (fun _ h => h) rfl rfl hw he hn hfit hl hdg kk
theorem gq_X8_13_6 {p : Program} {l : Launch} {e : Env} {R : Room} {s : State} {m : MethodId} {args : Array Value} {below : List Frame} {meth : Method} {c : Code} {H : Heap} {locs : List Loc} {cells slots : Nat} {Q : State → Prop} {cc : ByteArray} {pc : Nat} {ls : Array Slot} {rest : List Value} {X : tl_X} {σ : tl_H} {a : Nat} {fs : List Value} {v : Value} (C : tl_C X p s m args c cc RX8) (hin : meth.name = "<init>") (hS : tl_S X s σ H locs) (hw : X.2.1 ≤ a) (he : σ a = some (oO 6 fs)) (hn : narrow (tyX8 3) v = v) (hfit : fits (tyX8 3) v = true) (hl : 3 < fs.length) (hdg : decode cc pc = .ok (.putfield 13, 3)) (kk : ∀ (H1 : Heap) (locs1 : List Loc), tl_S X s (va_up σ a (some (oO 6 (fs.set 3 v)))) H1 locs1 → W p l e R s m args below meth c H1 locs1 cells slots Q (F0 m (pc + 3) ls rest)) : W p l e R s m args below meth c H locs cells slots Q (F0 m pc ls (v :: .ref a :: rest)) :=
  h_putF (ref := "TimberList$Piece") C hin hS in_X8 tyX8 tyX8_ok nmX8 rfl 3 (by decide) q889 (fun _ h => h) rfl rfl hw he hn hfit hl hdg kk
set_option maxHeartbeats 4000000 in
theorem m_Pi_init (l : Launch) (X : tl_X) (σ : tl_H) (a pt : Nat) (f ln j : Int) (hj : j = 0 ∨ j = 1) (hw : X.2.1 ≤ a) (ha : σ a = some (oO 6 [.int (iI 0), .int (iI 0), .null, .int (iI 0)])) : tl_Met l X yX8_init cX8_init 5 ((Option.none : Option FieldType)) 2 (0) (0) [.ref (a), .ref (pt), .int (iI (f)), .int (iI (ln)), .int (iI (j))] σ (tl_Qv X (fun σ' => σ' = va_up σ a (some (cPi f (f + ln) pt j)))) := by
  refine tl_start (by decide) (Nat.le_of_ble_eq_true rfl) (fun p e s m below meth c ls C hr hml hlk hnm hS hl => ?_)
  have hl : lv_has ls 5 [(0, .ref (a)), (1, .ref (pt)), (2, .int (iI (f))), (3, .int (iI (ln))), (4, .int (iI (j)))] := hl
  refine lv_aload_n C.1 C.2.1 dX8_init_0 rfl (lv_at hl 0 rfl) ?_
  refine lv_iload_n C.1 C.2.1 dX8_init_1 rfl (lv_at hl 2 rfl) ?_
  refine lv_iload_n C.1 C.2.1 dX8_init_2 rfl (lv_at hl 2 rfl) ?_
  refine lv_iload_n C.1 C.2.1 dX8_init_3 rfl (lv_at hl 3 rfl) ?_
  refine ti_iadd C.1 C.2.1 dX8_init_4 ?_
  refine tl_cv (t_I (n := 2) C hml hS (m_St_init_p l X σ a 0 0 0 (f) ((f + ln)) hw ha) q885 q342 q69 q343 rfl (by decide +kernel) rfl hl.1 rfl (Nat.le_of_ble_eq_true rfl) dX8_init_5 ⟨Nat.le_of_ble_eq_true rfl, Nat.le_of_ble_eq_true rfl⟩ ⟨Nat.le_refl _, Nat.le_refl _⟩) hS (fun σ_3 H locs hP_2 hS => ?_)
  have he_4 : σ_3 (a) = some (oO 6 [.int (iI (f)), .int (iI ((f + ln))), .null, .int (iI (0))]) := by rw [hP_2]; exact up_s
  refine lv_aload_n C.1 C.2.1 dX8_init_8 rfl (lv_at hl 0 rfl) ?_
  refine lv_aload_n C.1 C.2.1 dX8_init_9 rfl (lv_at hl 1 rfl) ?_
  refine gq_X8_7_6 C hnm hS hw he_4 rfl rfl (Nat.le_of_ble_eq_true rfl) dX8_init_10 (fun H locs hS => ?_)
  obtain ⟨σ_5, eσ_5⟩ : ∃ z, z = va_up σ_3 (a) (some (oO 6 [.int (iI (f)), .int (iI ((f + ln))), .ref (pt), .int (iI (0))])) := ⟨_, rfl⟩
  have hS : tl_S X s σ_5 H locs := by rw [eσ_5]; exact hS
  have he_6 : σ_5 (a) = some (oO 6 [.int (iI (f)), .int (iI ((f + ln))), .ref (pt), .int (iI (0))]) := by rw [eσ_5]; exact up_s
  refine lv_aload_n C.1 C.2.1 dX8_init_13 rfl (lv_at hl 0 rfl) ?_
  refine lv_iload C.1 C.2.1 dX8_init_14 (lv_at hl 4 rfl) ?_
  refine gq_X8_13_6 C hnm hS hw he_6 (iI_bit (by omega)) (iI_fitb (by omega)) (Nat.le_of_ble_eq_true rfl) dX8_init_16 (fun H locs hS => ?_)
  obtain ⟨σ_7, eσ_7⟩ : ∃ z, z = va_up σ_5 (a) (some (oO 6 [.int (iI (f)), .int (iI ((f + ln))), .ref (pt), .int (iI (j))])) := ⟨_, rfl⟩
  have hS : tl_S X s σ_7 H locs := by rw [eσ_7]; exact hS
  have he_8 : σ_7 (a) = some (oO 6 [.int (iI (f)), .int (iI ((f + ln))), .ref (pt), .int (iI (j))]) := by rw [eσ_7]; exact up_s
  exact r_v C hr hlk hS (by rw [eσ_7, eσ_5, hP_2, up_uu, up_uu]) dX8_init_19

theorem gf_X6_13_4 {p : Program} {l : Launch} {e : Env} {R : Room} {s : State} {m : MethodId} {args : Array Value} {below : List Frame} {meth : Method} {c : Code} {H : Heap} {locs : List Loc} {cells slots : Nat} {Q : State → Prop} {cc : ByteArray} {pc : Nat} {ls : Array Slot} {rest : List Value} {X : tl_X} {σ : tl_H} {a : Nat} {fs : List Value} {v : Value} (C : tl_C X p s m args c cc RX6) (hS : tl_S X s σ H locs) (he : σ a = some (oO 4 fs)) (hv : fs[1]? = some v) (hdg : decode cc pc = .ok (.getfield 13, 3)) (kk : W p l e R s m args below meth c H locs cells slots Q (F0 m (pc + 3) ls (v :: rest))) : W p l e R s m args below meth c H locs cells slots Q (F0 m pc ls (.ref a :: rest)) :=
  h_get (ref := "TimberList$Part") C hS in_X6 rfl 1 (by decide) q1460 (fun _ h => h) he hv hdg kk
theorem gf_X6_19_4 {p : Program} {l : Launch} {e : Env} {R : Room} {s : State} {m : MethodId} {args : Array Value} {below : List Frame} {meth : Method} {c : Code} {H : Heap} {locs : List Loc} {cells slots : Nat} {Q : State → Prop} {cc : ByteArray} {pc : Nat} {ls : Array Slot} {rest : List Value} {X : tl_X} {σ : tl_H} {a : Nat} {fs : List Value} {v : Value} (C : tl_C X p s m args c cc RX6) (hS : tl_S X s σ H locs) (he : σ a = some (oO 4 fs)) (hv : fs[3]? = some v) (hdg : decode cc pc = .ok (.getfield 19, 3)) (kk : W p l e R s m args below meth c H locs cells slots Q (F0 m (pc + 3) ls (v :: rest))) : W p l e R s m args below meth c H locs cells slots Q (F0 m pc ls (.ref a :: rest)) :=
  h_get (ref := "TimberList$Part") C hS in_X6 rfl 3 (by decide) q1466 (fun _ h => h) he hv hdg kk
theorem gf_X6_7_4 {p : Program} {l : Launch} {e : Env} {R : Room} {s : State} {m : MethodId} {args : Array Value} {below : List Frame} {meth : Method} {c : Code} {H : Heap} {locs : List Loc} {cells slots : Nat} {Q : State → Prop} {cc : ByteArray} {pc : Nat} {ls : Array Slot} {rest : List Value} {X : tl_X} {σ : tl_H} {a : Nat} {fs : List Value} {v : Value} (C : tl_C X p s m args c cc RX6) (hS : tl_S X s σ H locs) (he : σ a = some (oO 4 fs)) (hv : fs[0]? = some v) (hdg : decode cc pc = .ok (.getfield 7, 3)) (kk : W p l e R s m args below meth c H locs cells slots Q (F0 m (pc + 3) ls (v :: rest))) : W p l e R s m args below meth c H locs cells slots Q (F0 m pc ls (.ref a :: rest)) :=
  h_get (ref := "TimberList$Part") C hS in_X6 rfl 0 (by decide) q1457 (fun _ h => h) he hv hdg kk
set_option maxHeartbeats 4000000 in
theorem m_isAhead (l : Launch) (X : tl_X) (σ : tl_H) (a b : Nat) (n1 l1 w1 g1 j1 c1 : Int) (n2 l2 w2 g2 j2 c2 : Int) (hr : -1000000 ≤ n1 ∧ n1 ≤ 1000000 ∧ -1000000 ≤ l1 ∧ l1 ≤ 1000000 ∧ -1000000 ≤ g1 ∧ g1 ≤ 1000000 ∧ -1000000 ≤ n2 ∧ n2 ≤ 1000000 ∧ -1000000 ≤ l2 ∧ l2 ≤ 1000000 ∧ -1000000 ≤ g2 ∧ g2 ≤ 1000000) (ha : σ a = some (cPa n1 l1 w1 g1 j1 c1)) (hb : σ b = some (cPa n2 l2 w2 g2 j2 c2)) : tl_Met l X yX6_isAhead cX6_isAhead 2 ((Option.some FieldType.boolean)) 1 (0) (0) [.ref (a), .ref (b)] σ (tl_Qi X (fun r σ' => r = iI (tb (decide (l2 < l1 ∨ l1 = l2 ∧ (g1 < g2 ∨ g1 = g2 ∧ n1 < n2)))) ∧ σ = σ')) := by
  refine tl_start (by decide) (Nat.le_of_ble_eq_true rfl) (fun p e s m below meth c ls C hr hml hlk hnm hS hl => ?_)
  have hl : lv_has ls 2 [(0, .ref (a)), (1, .ref (b))] := hl
  refine lv_aload_n C.1 C.2.1 dX6_isAhead_0 rfl (lv_at hl 0 rfl) ?_
  refine gf_X6_13_4 C hS ha rfl dX6_isAhead_1 ?_
  refine lv_aload_n C.1 C.2.1 dX6_isAhead_4 rfl (lv_at hl 1 rfl) ?_
  refine gf_X6_13_4 C hS hb rfl dX6_isAhead_5 ?_
  refine ti_icmp_eq (tgt := 28) C.1 C.2.1 dX6_isAhead_8 (by decide) ⟨by omega, by omega⟩ ⟨by omega, by omega⟩ (fun hc_1 => ?_) (fun hc_1 => ?_)
  · skip
    refine lv_aload_n C.1 C.2.1 dX6_isAhead_28 rfl (lv_at hl 0 rfl) ?_
    refine gf_X6_19_4 C hS ha rfl dX6_isAhead_29 ?_
    refine lv_aload_n C.1 C.2.1 dX6_isAhead_32 rfl (lv_at hl 1 rfl) ?_
    refine gf_X6_19_4 C hS hb rfl dX6_isAhead_33 ?_
    refine ti_icmp_eq (tgt := 58) C.1 C.2.1 dX6_isAhead_36 (by decide) ⟨by omega, by omega⟩ ⟨by omega, by omega⟩ (fun hc_2 => ?_) (fun hc_2 => ?_)
    · skip
      refine lv_aload_n C.1 C.2.1 dX6_isAhead_58 rfl (lv_at hl 0 rfl) ?_
      refine gf_X6_7_4 C hS ha rfl dX6_isAhead_59 ?_
      refine lv_aload_n C.1 C.2.1 dX6_isAhead_62 rfl (lv_at hl 1 rfl) ?_
      refine gf_X6_7_4 C hS hb rfl dX6_isAhead_63 ?_
      refine ti_icmp_ge (tgt := 73) C.1 C.2.1 dX6_isAhead_66 (by decide) ⟨by omega, by omega⟩ ⟨by omega, by omega⟩ (fun hc_3 => ?_) (fun hc_3 => ?_)
      · skip
        refine ti_const C.1 C.2.1 dX6_isAhead_73 ?_
        exact r_z (z := 0) C hr hlk hS (by first | exact tb01 _ | omega | decide) ⟨congrArg iI (tb_f (by omega)).symm, rfl⟩ dX6_isAhead_74
      · skip
        refine ti_const C.1 C.2.1 dX6_isAhead_69 ?_
        refine lv_goto (tgt := 74) C.1 C.2.1 dX6_isAhead_70 (by decide) ?_
        exact r_z (z := 1) C hr hlk hS (by first | exact tb01 _ | omega | decide) ⟨congrArg iI (tb_t (by omega)).symm, rfl⟩ dX6_isAhead_74
    · skip
      refine lv_aload_n C.1 C.2.1 dX6_isAhead_39 rfl (lv_at hl 0 rfl) ?_
      refine gf_X6_19_4 C hS ha rfl dX6_isAhead_40 ?_
      refine lv_aload_n C.1 C.2.1 dX6_isAhead_43 rfl (lv_at hl 1 rfl) ?_
      refine gf_X6_19_4 C hS hb rfl dX6_isAhead_44 ?_
      refine ti_icmp_ge (tgt := 54) C.1 C.2.1 dX6_isAhead_47 (by decide) ⟨by omega, by omega⟩ ⟨by omega, by omega⟩ (fun hc_4 => ?_) (fun hc_4 => ?_)
      · skip
        refine ti_const C.1 C.2.1 dX6_isAhead_54 ?_
        refine lv_goto (tgt := 74) C.1 C.2.1 dX6_isAhead_55 (by decide) ?_
        exact r_z (z := 0) C hr hlk hS (by first | exact tb01 _ | omega | decide) ⟨congrArg iI (tb_f (by omega)).symm, rfl⟩ dX6_isAhead_74
      · skip
        refine ti_const C.1 C.2.1 dX6_isAhead_50 ?_
        refine lv_goto (tgt := 74) C.1 C.2.1 dX6_isAhead_51 (by decide) ?_
        exact r_z (z := 1) C hr hlk hS (by first | exact tb01 _ | omega | decide) ⟨congrArg iI (tb_t (by omega)).symm, rfl⟩ dX6_isAhead_74
  · skip
    refine lv_aload_n C.1 C.2.1 dX6_isAhead_11 rfl (lv_at hl 0 rfl) ?_
    refine gf_X6_13_4 C hS ha rfl dX6_isAhead_12 ?_
    refine lv_aload_n C.1 C.2.1 dX6_isAhead_15 rfl (lv_at hl 1 rfl) ?_
    refine gf_X6_13_4 C hS hb rfl dX6_isAhead_16 ?_
    refine ti_icmp_le (tgt := 26) C.1 C.2.1 dX6_isAhead_19 (by decide) ⟨by omega, by omega⟩ ⟨by omega, by omega⟩ (fun hc_5 => ?_) (fun hc_5 => ?_)
    · skip
      refine ti_const C.1 C.2.1 dX6_isAhead_26 ?_
      exact r_z (z := 0) C hr hlk hS (by first | exact tb01 _ | omega | decide) ⟨congrArg iI (tb_f (by omega)).symm, rfl⟩ dX6_isAhead_27
    · skip
      refine ti_const C.1 C.2.1 dX6_isAhead_22 ?_
      refine lv_goto (tgt := 27) C.1 C.2.1 dX6_isAhead_23 (by decide) ?_
      exact r_z (z := 1) C hr hlk hS (by first | exact tb01 _ | omega | decide) ⟨congrArg iI (tb_t (by omega)).symm, rfl⟩ dX6_isAhead_27

theorem gf_X8_13_6 {p : Program} {l : Launch} {e : Env} {R : Room} {s : State} {m : MethodId} {args : Array Value} {below : List Frame} {meth : Method} {c : Code} {H : Heap} {locs : List Loc} {cells slots : Nat} {Q : State → Prop} {cc : ByteArray} {pc : Nat} {ls : Array Slot} {rest : List Value} {X : tl_X} {σ : tl_H} {a : Nat} {fs : List Value} {v : Value} (C : tl_C X p s m args c cc RX8) (hS : tl_S X s σ H locs) (he : σ a = some (oO 6 fs)) (hv : fs[3]? = some v) (hdg : decode cc pc = .ok (.getfield 13, 3)) (kk : W p l e R s m args below meth c H locs cells slots Q (F0 m (pc + 3) ls (v :: rest))) : W p l e R s m args below meth c H locs cells slots Q (F0 m pc ls (.ref a :: rest)) :=
  h_get (ref := "TimberList$Piece") C hS in_X8 rfl 3 (by decide) q889 (fun _ h => h) he hv hdg kk
theorem gf_X8_26_6 {p : Program} {l : Launch} {e : Env} {R : Room} {s : State} {m : MethodId} {args : Array Value} {below : List Frame} {meth : Method} {c : Code} {H : Heap} {locs : List Loc} {cells slots : Nat} {Q : State → Prop} {cc : ByteArray} {pc : Nat} {ls : Array Slot} {rest : List Value} {X : tl_X} {σ : tl_H} {a : Nat} {fs : List Value} {v : Value} (C : tl_C X p s m args c cc RX8) (hS : tl_S X s σ H locs) (he : σ a = some (oO 6 fs)) (hv : fs[1]? = some v) (hdg : decode cc pc = .ok (.getfield 26, 3)) (kk : W p l e R s m args below meth c H locs cells slots Q (F0 m (pc + 3) ls (v :: rest))) : W p l e R s m args below meth c H locs cells slots Q (F0 m pc ls (.ref a :: rest)) :=
  h_get (ref := "TimberList$Piece") C hS in_X8 rfl 1 (by decide) q351 (fun x h => u_same (C.2.2.2.1 _ q352) x h) he hv hdg kk
theorem gf_X8_23_6 {p : Program} {l : Launch} {e : Env} {R : Room} {s : State} {m : MethodId} {args : Array Value} {below : List Frame} {meth : Method} {c : Code} {H : Heap} {locs : List Loc} {cells slots : Nat} {Q : State → Prop} {cc : ByteArray} {pc : Nat} {ls : Array Slot} {rest : List Value} {X : tl_X} {σ : tl_H} {a : Nat} {fs : List Value} {v : Value} (C : tl_C X p s m args c cc RX8) (hS : tl_S X s σ H locs) (he : σ a = some (oO 6 fs)) (hv : fs[0]? = some v) (hdg : decode cc pc = .ok (.getfield 23, 3)) (kk : W p l e R s m args below meth c H locs cells slots Q (F0 m (pc + 3) ls (v :: rest))) : W p l e R s m args below meth c H locs cells slots Q (F0 m pc ls (.ref a :: rest)) :=
  h_get (ref := "TimberList$Piece") C hS in_X8 rfl 0 (by decide) q346 (fun x h => u_same (C.2.2.2.1 _ q347) x h) he hv hdg kk
theorem gf_X8_7_6 {p : Program} {l : Launch} {e : Env} {R : Room} {s : State} {m : MethodId} {args : Array Value} {below : List Frame} {meth : Method} {c : Code} {H : Heap} {locs : List Loc} {cells slots : Nat} {Q : State → Prop} {cc : ByteArray} {pc : Nat} {ls : Array Slot} {rest : List Value} {X : tl_X} {σ : tl_H} {a : Nat} {fs : List Value} {v : Value} (C : tl_C X p s m args c cc RX8) (hS : tl_S X s σ H locs) (he : σ a = some (oO 6 fs)) (hv : fs[2]? = some v) (hdg : decode cc pc = .ok (.getfield 7, 3)) (kk : W p l e R s m args below meth c H locs cells slots Q (F0 m (pc + 3) ls (v :: rest))) : W p l e R s m args below meth c H locs cells slots Q (F0 m pc ls (.ref a :: rest)) :=
  h_get (ref := "TimberList$Piece") C hS in_X8 rfl 2 (by decide) q886 (fun _ h => h) he hv hdg kk
theorem gf_X8_17_4 {p : Program} {l : Launch} {e : Env} {R : Room} {s : State} {m : MethodId} {args : Array Value} {below : List Frame} {meth : Method} {c : Code} {H : Heap} {locs : List Loc} {cells slots : Nat} {Q : State → Prop} {cc : ByteArray} {pc : Nat} {ls : Array Slot} {rest : List Value} {X : tl_X} {σ : tl_H} {a : Nat} {fs : List Value} {v : Value} (C : tl_C X p s m args c cc RX8) (hS : tl_S X s σ H locs) (he : σ a = some (oO 4 fs)) (hv : fs[0]? = some v) (hdg : decode cc pc = .ok (.getfield 17, 3)) (kk : W p l e R s m args below meth c H locs cells slots Q (F0 m (pc + 3) ls (v :: rest))) : W p l e R s m args below meth c H locs cells slots Q (F0 m pc ls (.ref a :: rest)) :=
  h_get (ref := "TimberList$Part") C hS in_X6 rfl 0 (by decide) q1458 (fun _ h => h) he hv hdg kk
set_option maxHeartbeats 4000000 in
theorem m_Pi_get (l : Launch) (X : tl_X) (σ : tl_H) (a : Nat) (f1 t1 : Int) (p1 : Nat) (j1 : Int) (n2 l2 w2 g2 j2 c2 : Int) (k : Int) (hk : -1000000 ≤ k ∧ k ≤ 1000000) (hj : j1 = 0 ∨ j1 = 1) (ha : σ a = some (cPi f1 t1 p1 j1)) (hp : σ p1 = some (cPa n2 l2 w2 g2 j2 c2)) : tl_Met l X yX8_get cX8_get 2 ((Option.some FieldType.int)) 1 (0) (0) [.ref (a), .int (iI (k))] σ (tl_Qi X (fun r σ' => r = iI (if k = 0 then n2 else if k = 1 then f1 else if k = 2 then t1 else j1) ∧ σ = σ')) := by
  refine tl_start (by decide) (Nat.le_of_ble_eq_true rfl) (fun p e s m below meth c ls C hr hml hlk hnm hS hl => ?_)
  have hl : lv_has ls 2 [(0, .ref (a)), (1, .int (iI (k)))] := hl
  refine lv_iload_n C.1 C.2.1 dX8_get_0 rfl (lv_at hl 1 rfl) ?_
  refine ti_if_ne (tgt := 14) C.1 C.2.1 dX8_get_1 (by decide) ⟨by omega, by omega⟩ (fun hc_1 => ?_) (fun hc_1 => ?_)
  · skip
    refine lv_iload_n C.1 C.2.1 dX8_get_14 rfl (lv_at hl 1 rfl) ?_
    refine ti_const C.1 C.2.1 dX8_get_15 ?_
    refine ti_icmp_ne (tgt := 26) C.1 C.2.1 dX8_get_16 (by decide) ⟨by omega, by omega⟩ ⟨by decide, by decide⟩ (fun hc_2 => ?_) (fun hc_2 => ?_)
    · skip
      refine lv_iload_n C.1 C.2.1 dX8_get_26 rfl (lv_at hl 1 rfl) ?_
      refine ti_const C.1 C.2.1 dX8_get_27 ?_
      refine ti_icmp_ne (tgt := 38) C.1 C.2.1 dX8_get_28 (by decide) ⟨by omega, by omega⟩ ⟨by decide, by decide⟩ (fun hc_3 => ?_) (fun hc_3 => ?_)
      · skip
        refine lv_aload_n C.1 C.2.1 dX8_get_38 rfl (lv_at hl 0 rfl) ?_
        refine gf_X8_13_6 C hS ha rfl dX8_get_39 ?_
        refine ti_if_eq (tgt := 49) C.1 C.2.1 dX8_get_42 (by decide) ⟨by omega, by omega⟩ (fun hc_4 => ?_) (fun hc_4 => ?_)
        · skip
          refine ti_const C.1 C.2.1 dX8_get_49 ?_
          exact r_i C hr hlk hS ⟨congrArg iI (by rcases hj with rfl | rfl <;> first | (simp_all; done) | (split <;> (try split) <;> (try split) <;> omega)), rfl⟩ dX8_get_50
        · skip
          refine ti_const C.1 C.2.1 dX8_get_45 ?_
          refine lv_goto (tgt := 50) C.1 C.2.1 dX8_get_46 (by decide) ?_
          exact r_i C hr hlk hS ⟨congrArg iI (by rcases hj with rfl | rfl <;> first | (simp_all; done) | (split <;> (try split) <;> (try split) <;> omega)), rfl⟩ dX8_get_50
      · skip
        refine lv_aload_n C.1 C.2.1 dX8_get_31 rfl (lv_at hl 0 rfl) ?_
        refine gf_X8_26_6 C hS ha rfl dX8_get_32 ?_
        refine lv_goto (tgt := 50) C.1 C.2.1 dX8_get_35 (by decide) ?_
        exact r_i C hr hlk hS ⟨congrArg iI (by first | (simp_all; done) | (split <;> (try split) <;> (try split) <;> omega)), rfl⟩ dX8_get_50
    · skip
      refine lv_aload_n C.1 C.2.1 dX8_get_19 rfl (lv_at hl 0 rfl) ?_
      refine gf_X8_23_6 C hS ha rfl dX8_get_20 ?_
      refine lv_goto (tgt := 50) C.1 C.2.1 dX8_get_23 (by decide) ?_
      exact r_i C hr hlk hS ⟨congrArg iI (by first | (simp_all; done) | (split <;> (try split) <;> (try split) <;> omega)), rfl⟩ dX8_get_50
  · skip
    refine lv_aload_n C.1 C.2.1 dX8_get_4 rfl (lv_at hl 0 rfl) ?_
    refine gf_X8_7_6 C hS ha rfl dX8_get_5 ?_
    refine gf_X8_17_4 C hS hp rfl dX8_get_8 ?_
    refine lv_goto (tgt := 50) C.1 C.2.1 dX8_get_11 (by decide) ?_
    exact r_i C hr hlk hS ⟨congrArg iI (by first | (simp_all; done) | (split <;> (try split) <;> (try split) <;> omega)), rfl⟩ dX8_get_50

theorem gf_X8_29_3 {p : Program} {l : Launch} {e : Env} {R : Room} {s : State} {m : MethodId} {args : Array Value} {below : List Frame} {meth : Method} {c : Code} {H : Heap} {locs : List Loc} {cells slots : Nat} {Q : State → Prop} {cc : ByteArray} {pc : Nat} {ls : Array Slot} {rest : List Value} {X : tl_X} {σ : tl_H} {a : Nat} {fs : List Value} {v : Value} (C : tl_C X p s m args c cc RX8) (hS : tl_S X s σ H locs) (he : σ a = some (oO 3 fs)) (hv : fs[2]? = some v) (hdg : decode cc pc = .ok (.getfield 29, 3)) (kk : W p l e R s m args below meth c H locs cells slots Q (F0 m (pc + 3) ls (v :: rest))) : W p l e R s m args below meth c H locs cells slots Q (F0 m pc ls (.ref a :: rest)) :=
  h_get (ref := "TimberList$Defect") C hS in_X5 rfl 2 (by decide) q1438 (fun _ h => h) he hv hdg kk
theorem gf_X8_34_4 {p : Program} {l : Launch} {e : Env} {R : Room} {s : State} {m : MethodId} {args : Array Value} {below : List Frame} {meth : Method} {c : Code} {H : Heap} {locs : List Loc} {cells slots : Nat} {Q : State → Prop} {cc : ByteArray} {pc : Nat} {ls : Array Slot} {rest : List Value} {X : tl_X} {σ : tl_H} {a : Nat} {fs : List Value} {v : Value} (C : tl_C X p s m args c cc RX8) (hS : tl_S X s σ H locs) (he : σ a = some (oO 4 fs)) (hv : fs[3]? = some v) (hdg : decode cc pc = .ok (.getfield 34, 3)) (kk : W p l e R s m args below meth c H locs cells slots Q (F0 m (pc + 3) ls (v :: rest))) : W p l e R s m args below meth c H locs cells slots Q (F0 m pc ls (.ref a :: rest)) :=
  h_get (ref := "TimberList$Part") C hS in_X6 rfl 3 (by decide) q1467 (fun _ h => h) he hv hdg kk
set_option maxHeartbeats 4000000 in
theorem m_isSpoiled (l : Launch) (X : tl_X) (σ : tl_H) (a b : Nat) (f1 t1 : Int) (p1 : Nat) (j1 : Int) (n2 l2 w2 g2 j2 c2 : Int) (f3 t3 g3 : Int) (hr : -1000000 ≤ f1 ∧ f1 ≤ 1000000 ∧ -1000000 ≤ t1 ∧ t1 ≤ 1000000 ∧ -1000000 ≤ f3 ∧ f3 ≤ 1000000 ∧ -1000000 ≤ t3 ∧ t3 ≤ 1000000 ∧ -1000000 ≤ g2 ∧ g2 ≤ 1000000 ∧ -1000000 ≤ g3 ∧ g3 ≤ 1000000) (ha : σ a = some (cPi f1 t1 p1 j1)) (hp : σ p1 = some (cPa n2 l2 w2 g2 j2 c2)) (hb : σ b = some (cDe f3 t3 g3)) : tl_Met l X yX8_isSpoiled cX8_isSpoiled 2 ((Option.some FieldType.boolean)) 2 (0) (0) [.ref (a), .ref (b)] σ (tl_Qi X (fun r σ' => r = iI (tb (decide (g2 < g3 ∧ f1 < t3 ∧ f3 < t1))) ∧ σ = σ')) := by
  refine tl_start (by decide) (Nat.le_of_ble_eq_true rfl) (fun p e s m below meth c ls C hr hml hlk hnm hS hl => ?_)
  have hl : lv_has ls 2 [(0, .ref (a)), (1, .ref (b))] := hl
  refine lv_aload_n C.1 C.2.1 dX8_isSpoiled_0 rfl (lv_at hl 1 rfl) ?_
  refine gf_X8_29_3 C hS hb rfl dX8_isSpoiled_1 ?_
  refine lv_aload_n C.1 C.2.1 dX8_isSpoiled_4 rfl (lv_at hl 0 rfl) ?_
  refine gf_X8_7_6 C hS ha rfl dX8_isSpoiled_5 ?_
  refine gf_X8_34_4 C hS hp rfl dX8_isSpoiled_8 ?_
  refine ti_icmp_le (tgt := 27) C.1 C.2.1 dX8_isSpoiled_11 (by decide) ⟨by omega, by omega⟩ ⟨by omega, by omega⟩ (fun hc_1 => ?_) (fun hc_1 => ?_)
  · skip
    refine ti_const C.1 C.2.1 dX8_isSpoiled_27 ?_
    exact r_z (z := 0) C hr hlk hS (by first | exact tb01 _ | omega | decide) ⟨congrArg iI (tb_f (by omega)).symm, rfl⟩ dX8_isSpoiled_28
  · skip
    refine lv_aload_n C.1 C.2.1 dX8_isSpoiled_14 rfl (lv_at hl 0 rfl) ?_
    refine lv_aload_n C.1 C.2.1 dX8_isSpoiled_15 rfl (lv_at hl 1 rfl) ?_
    refine ti_const C.1 C.2.1 dX8_isSpoiled_16 ?_
    refine tl_ci (t_U (n := 2) (ci := 6) (K := RX8) C hml hS (m_isNear_pd l X σ a b f1 t1 p1 j1 f3 t3 g3 0 (by omega) ha hb) q905 q906 q908 q909 q69 q910 rfl (by decide +kernel) ha rfl rfl hl.1 rfl (Nat.le_of_ble_eq_true rfl) dX8_isSpoiled_17 ⟨Nat.le_of_ble_eq_true rfl, Nat.le_of_ble_eq_true rfl⟩ ⟨Nat.le_refl _, Nat.le_refl _⟩) hS (fun r_2 σ_4 H locs hP_3 hS => ?_)
    obtain ⟨rfl, rfl⟩ := hP_3
    refine ti_tb_eq (tgt := 27) C.1 C.2.1 dX8_isSpoiled_20 (by decide) (fun hc_5 => ?_) (fun hc_5 => ?_)
    · skip
      refine ti_const C.1 C.2.1 dX8_isSpoiled_27 ?_
      exact r_z (z := 0) C hr hlk hS (by first | exact tb01 _ | omega | decide) ⟨congrArg iI (tb_f (by omega)).symm, rfl⟩ dX8_isSpoiled_28
    · skip
      refine ti_const C.1 C.2.1 dX8_isSpoiled_23 ?_
      refine lv_goto (tgt := 28) C.1 C.2.1 dX8_isSpoiled_24 (by decide) ?_
      exact r_z (z := 1) C hr hlk hS (by first | exact tb01 _ | omega | decide) ⟨congrArg iI (tb_t (by omega)).symm, rfl⟩ dX8_isSpoiled_28

