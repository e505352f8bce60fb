/-! THE MODEL'S METHODS, WALKED (printed by gen_model.py) -/
set_option maxRecDepth 100000
set_option maxHeartbeats 4000000 in
theorem m2_isIn (l : Launch) (X : tl_X) (σ : tl_H) (v lo hi : Int) (hr : -2147483648 ≤ v ∧ v ≤ 2147483647 ∧ -2147483648 ≤ lo ∧ lo ≤ 2147483647 ∧ -2147483648 ≤ hi ∧ hi ≤ 2147483647) : tl_Met l X yX2_isIn cX2_isIn 3 ((Option.some FieldType.boolean)) 1 (0) (0) [.int (iI (v)), .int (iI (lo)), .int (iI (hi))] σ (tl_Qi X (fun r σ' => r = iI (tb (decide (lo ≤ v ∧ v ≤ hi))) ∧ σ = σ')) := by
  refine tl_start (by decide) (Nat.le_of_ble_eq_true rfl) (fun p e s m below meth c ls C hr hml hlk hnm hS hl => ?_)
  have hl : lv_has ls 3 [(0, .int (iI (v))), (1, .int (iI (lo))), (2, .int (iI (hi)))] := hl
  refine lv_iload_n C.1 C.2.1 dX2_isIn_0 rfl (lv_at hl 0 rfl) ?_
  refine lv_iload_n C.1 C.2.1 dX2_isIn_1 rfl (lv_at hl 1 rfl) ?_
  refine ti_icmp_lt (tgt := 14) C.1 C.2.1 dX2_isIn_2 (by decide) ⟨by omega, by omega⟩ ⟨by omega, by omega⟩ (fun hc_1 => ?_) (fun hc_1 => ?_)
  · skip
    refine ti_const C.1 C.2.1 dX2_isIn_14 ?_
    exact r_z (z := 0) C hr hlk hS (by first | exact tb01 _ | omega | decide) ⟨congrArg iI (tb_f (by omega)).symm, rfl⟩ dX2_isIn_15
  · skip
    refine lv_iload_n C.1 C.2.1 dX2_isIn_5 rfl (lv_at hl 0 rfl) ?_
    refine lv_iload_n C.1 C.2.1 dX2_isIn_6 rfl (lv_at hl 2 rfl) ?_
    refine ti_icmp_gt (tgt := 14) C.1 C.2.1 dX2_isIn_7 (by decide) ⟨by omega, by omega⟩ ⟨by omega, by omega⟩ (fun hc_2 => ?_) (fun hc_2 => ?_)
    · skip
      refine ti_const C.1 C.2.1 dX2_isIn_14 ?_
      exact r_z (z := 0) C hr hlk hS (by first | exact tb01 _ | omega | decide) ⟨congrArg iI (tb_f (by omega)).symm, rfl⟩ dX2_isIn_15
    · skip
      refine ti_const C.1 C.2.1 dX2_isIn_10 ?_
      refine lv_goto (tgt := 15) C.1 C.2.1 dX2_isIn_11 (by decide) ?_
      exact r_z (z := 1) C hr hlk hS (by first | exact tb01 _ | omega | decide) ⟨congrArg iI (tb_t (by omega)).symm, rfl⟩ dX2_isIn_15

theorem gf_X2_39_8 {p : Program} {l : Launch} {e : Env} {R : Room} {s : State} {m : MethodId} {args : Array Value} {below : List Frame} {meth : Method} {c : Code} {H : Heap} {locs : List Loc} {cells slots : Nat} {Q : State → Prop} {cc : ByteArray} {pc : Nat} {ls : Array Slot} {rest : List Value} {X : tl_X} {σ : tl_H} {a : Nat} {fs : List Value} {v : Value} (C : tl_C X p s m args c cc RX2) (hS : tl_S X s σ H locs) (he : σ a = some (oO 8 fs)) (hv : fs[1]? = some v) (hdg : decode cc pc = .ok (.getfield 39, 3)) (kk : W p l e R s m args below meth c H locs cells slots Q (F0 m (pc + 3) ls (v :: rest))) : W p l e R s m args below meth c H locs cells slots Q (F0 m pc ls (.ref a :: rest)) :=
  h_get (ref := "TimberListModel") C hS in_X2 rfl 1 (by decide) q1728 (fun _ h => h) he hv hdg kk
set_option maxHeartbeats 4000000 in
theorem m2_isBoard (l : Launch) (X : tl_X) (σ : tl_H) (mo : Nat) (ad : Nat → Nat) (M : mS) (hM : MD X σ mo ad M) (hI : mI M) (b : Int) (hr : -2147483648 ≤ b ∧ b ≤ 2147483647) : tl_Met l X yX2_isBoard cX2_isBoard 2 ((Option.some FieldType.boolean)) 2 (0) (0) [.ref (mo), .int (iI (b))] σ (tl_Qi X (fun r σ' => r = iI (tb (decide (0 ≤ b ∧ b ≤ M.1 1 - 1))) ∧ σ = σ')) := by
  refine tl_start (by decide) (Nat.le_of_ble_eq_true rfl) (fun p e s m below meth c ls C hr hml hlk hnm hS hl => ?_)
  have hl : lv_has ls 2 [(0, .ref (mo)), (1, .int (iI (b)))] := hl
  obtain ⟨hm, h0, h1, h2, h3, h4, h5, hd⟩ := id hM
  obtain ⟨hN, hB, hPt, hJ, hA, hWn⟩ := id hI
  refine lv_iload_n C.1 C.2.1 dX2_isBoard_0 rfl (lv_at hl 1 rfl) ?_
  refine ti_const C.1 C.2.1 dX2_isBoard_1 ?_
  refine lv_aload_n C.1 C.2.1 dX2_isBoard_2 rfl (lv_at hl 0 rfl) ?_
  refine gf_X2_39_8 C hS hm rfl dX2_isBoard_3 ?_
  refine ti_const C.1 C.2.1 dX2_isBoard_6 ?_
  refine ti_isub C.1 C.2.1 dX2_isBoard_7 ?_
  refine tl_ci (t_S (n := 3) C hml hS (m2_isIn l X σ (b) (0) ((M.1 1 - 1)) (by omega)) q1782 q1783 q53 q1784 (by decide +kernel) rfl hl.1 rfl (Nat.le_of_ble_eq_true rfl) dX2_isBoard_8 ⟨Nat.le_of_ble_eq_true rfl, Nat.le_of_ble_eq_true rfl⟩ ⟨Nat.le_refl _, Nat.le_refl _⟩) hS (fun r_1 σ_3 H locs hP_2 hS => ?_)
  obtain ⟨rfl, rfl⟩ := hP_2
  exact r_z (z := tb (decide (0 ≤ b ∧ b ≤ (M.1 1 - 1)))) C hr hlk hS (by first | exact tb01 _ | omega | decide) ⟨rfl, rfl⟩ dX2_isBoard_11

theorem gf_X2_46_8 {p : Program} {l : Launch} {e : Env} {R : Room} {s : State} {m : MethodId} {args : Array Value} {below : List Frame} {meth : Method} {c : Code} {H : Heap} {locs : List Loc} {cells slots : Nat} {Q : State → Prop} {cc : ByteArray} {pc : Nat} {ls : Array Slot} {rest : List Value} {X : tl_X} {σ : tl_H} {a : Nat} {fs : List Value} {v : Value} (C : tl_C X p s m args c cc RX2) (hS : tl_S X s σ H locs) (he : σ a = some (oO 8 fs)) (hv : fs[5]? = some v) (hdg : decode cc pc = .ok (.getfield 46, 3)) (kk : W p l e R s m args below meth c H locs cells slots Q (F0 m (pc + 3) ls (v :: rest))) : W p l e R s m args below meth c H locs cells slots Q (F0 m pc ls (.ref a :: rest)) :=
  h_get (ref := "TimberListModel") C hS in_X2 rfl 5 (by decide) q1732 (fun _ h => h) he hv hdg kk
set_option maxHeartbeats 4000000 in
theorem m2_isPart (l : Launch) (X : tl_X) (σ : tl_H) (mo : Nat) (ad : Nat → Nat) (M : mS) (hM : MD X σ mo ad M) (hI : mI M) (b : Int) (hr : -2147483648 ≤ b ∧ b ≤ 2147483647) : tl_Met l X yX2_isPart cX2_isPart 2 ((Option.some FieldType.boolean)) 2 (0) (0) [.ref (mo), .int (iI (b))] σ (tl_Qi X (fun r σ' => r = iI (tb (decide (0 ≤ b ∧ b ≤ M.1 3 - 1))) ∧ σ = σ')) := by
  refine tl_start (by decide) (Nat.le_of_ble_eq_true rfl) (fun p e s m below meth c ls C hr hml hlk hnm hS hl => ?_)
  have hl : lv_has ls 2 [(0, .ref (mo)), (1, .int (iI (b)))] := hl
  obtain ⟨hm, h0, h1, h2, h3, h4, h5, hd⟩ := id hM
  obtain ⟨hN, hB, hPt, hJ, hA, hWn⟩ := id hI
  refine lv_iload_n C.1 C.2.1 dX2_isPart_0 rfl (lv_at hl 1 rfl) ?_
  refine ti_const C.1 C.2.1 dX2_isPart_1 ?_
  refine lv_aload_n C.1 C.2.1 dX2_isPart_2 rfl (lv_at hl 0 rfl) ?_
  refine gf_X2_46_8 C hS hm rfl dX2_isPart_3 ?_
  refine ti_const C.1 C.2.1 dX2_isPart_6 ?_
  refine ti_isub C.1 C.2.1 dX2_isPart_7 ?_
  refine tl_ci (t_S (n := 3) C hml hS (m2_isIn l X σ (b) (0) ((M.1 3 - 1)) (by omega)) q1782 q1783 q53 q1784 (by decide +kernel) rfl hl.1 rfl (Nat.le_of_ble_eq_true rfl) dX2_isPart_8 ⟨Nat.le_of_ble_eq_true rfl, Nat.le_of_ble_eq_true rfl⟩ ⟨Nat.le_refl _, Nat.le_refl _⟩) hS (fun r_1 σ_3 H locs hP_2 hS => ?_)
  obtain ⟨rfl, rfl⟩ := hP_2
  exact r_z (z := tb (decide (0 ≤ b ∧ b ≤ (M.1 3 - 1)))) C hr hlk hS (by first | exact tb01 _ | omega | decide) ⟨rfl, rfl⟩ dX2_isPart_11

theorem gf_X2_9_8 {p : Program} {l : Launch} {e : Env} {R : Room} {s : State} {m : MethodId} {args : Array Value} {below : List Frame} {meth : Method} {c : Code} {H : Heap} {locs : List Loc} {cells slots : Nat} {Q : State → Prop} {cc : ByteArray} {pc : Nat} {ls : Array Slot} {rest : List Value} {X : tl_X} {σ : tl_H} {a : Nat} {fs : List Value} {v : Value} (C : tl_C X p s m args c cc RX2) (hS : tl_S X s σ H locs) (he : σ a = some (oO 8 fs)) (hv : fs[2]? = some v) (hdg : decode cc pc = .ok (.getfield 9, 3)) (kk : W p l e R s m args below meth c H locs cells slots Q (F0 m (pc + 3) ls (v :: rest))) : W p l e R s m args below meth c H locs cells slots Q (F0 m pc ls (.ref a :: rest)) :=
  h_get (ref := "TimberListModel") C hS in_X2 rfl 2 (by decide) q1729 (fun _ h => h) he hv hdg kk
set_option maxHeartbeats 4000000 in
theorem m2_length (l : Launch) (X : tl_X) (σ : tl_H) (mo : Nat) (ad : Nat → Nat) (M : mS) (hM : MD X σ mo ad M) (hI : mI M) (b : Int) (hr : 0 ≤ b ∧ b < 10) : tl_Met l X yX2_length cX2_length 2 ((Option.some FieldType.int)) 1 (0) (0) [.ref (mo), .int (iI (b))] σ (tl_Qi X (fun r σ' => r = iI (M.2 0 (3 * b)) ∧ σ = σ')) := by
  refine tl_start (by decide) (Nat.le_of_ble_eq_true rfl) (fun p e s m below meth c ls C hr hml hlk hnm hS hl => ?_)
  have hl : lv_has ls 2 [(0, .ref (mo)), (1, .int (iI (b)))] := hl
  obtain ⟨hm, h0, h1, h2, h3, h4, h5, hd⟩ := id hM
  obtain ⟨hN, hB, hPt, hJ, hA, hWn⟩ := id hI
  refine lv_aload_n C.1 C.2.1 dX2_length_0 rfl (lv_at hl 0 rfl) ?_
  refine gf_X2_9_8 C hS hm rfl dX2_length_1 ?_
  refine ti_const C.1 C.2.1 dX2_length_4 ?_
  refine lv_iload_n C.1 C.2.1 dX2_length_5 rfl (lv_at hl 1 rfl) ?_
  refine ti_imul C.1 C.2.1 dX2_length_6 ?_
  refine h_ialdZ C hS h0 (by omega) (by omega) (by omega) dX2_length_7 ?_
  have hb_1 := hB 0 ((3 * b))
  exact r_i C hr hlk hS ⟨rfl, rfl⟩ dX2_length_8

set_option maxHeartbeats 4000000 in
theorem m2_width (l : Launch) (X : tl_X) (σ : tl_H) (mo : Nat) (ad : Nat → Nat) (M : mS) (hM : MD X σ mo ad M) (hI : mI M) (b : Int) (hr : 0 ≤ b ∧ b < 10) : tl_Met l X yX2_width cX2_width 2 ((Option.some FieldType.int)) 1 (0) (0) [.ref (mo), .int (iI (b))] σ (tl_Qi X (fun r σ' => r = iI (M.2 0 (3 * b + 1)) ∧ σ = σ')) := by
  refine tl_start (by decide) (Nat.le_of_ble_eq_true rfl) (fun p e s m below meth c ls C hr hml hlk hnm hS hl => ?_)
  have hl : lv_has ls 2 [(0, .ref (mo)), (1, .int (iI (b)))] := hl
  obtain ⟨hm, h0, h1, h2, h3, h4, h5, hd⟩ := id hM
  obtain ⟨hN, hB, hPt, hJ, hA, hWn⟩ := id hI
  refine lv_aload_n C.1 C.2.1 dX2_width_0 rfl (lv_at hl 0 rfl) ?_
  refine gf_X2_9_8 C hS hm rfl dX2_width_1 ?_
  refine ti_const C.1 C.2.1 dX2_width_4 ?_
  refine lv_iload_n C.1 C.2.1 dX2_width_5 rfl (lv_at hl 1 rfl) ?_
  refine ti_imul C.1 C.2.1 dX2_width_6 ?_
  refine ti_const C.1 C.2.1 dX2_width_7 ?_
  refine ti_iadd C.1 C.2.1 dX2_width_8 ?_
  refine h_ialdZ C hS h0 (by omega) (by omega) (by omega) dX2_width_9 ?_
  have hb_1 := hB 0 (((3 * b) + 1))
  exact r_i C hr hlk hS ⟨rfl, rfl⟩ dX2_width_10

theorem gf_X2_16_8 {p : Program} {l : Launch} {e : Env} {R : Room} {s : State} {m : MethodId} {args : Array Value} {below : List Frame} {meth : Method} {c : Code} {H : Heap} {locs : List Loc} {cells slots : Nat} {Q : State → Prop} {cc : ByteArray} {pc : Nat} {ls : Array Slot} {rest : List Value} {X : tl_X} {σ : tl_H} {a : Nat} {fs : List Value} {v : Value} (C : tl_C X p s m args c cc RX2) (hS : tl_S X s σ H locs) (he : σ a = some (oO 8 fs)) (hv : fs[6]? = some v) (hdg : decode cc pc = .ok (.getfield 16, 3)) (kk : W p l e R s m args below meth c H locs cells slots Q (F0 m (pc + 3) ls (v :: rest))) : W p l e R s m args below meth c H locs cells slots Q (F0 m pc ls (.ref a :: rest)) :=
  h_get (ref := "TimberListModel") C hS in_X2 rfl 6 (by decide) q1733 (fun _ h => h) he hv hdg kk
set_option maxHeartbeats 4000000 in
theorem m2_want (l : Launch) (X : tl_X) (σ : tl_H) (mo : Nat) (ad : Nat → Nat) (M : mS) (hM : MD X σ mo ad M) (hI : mI M) (pa x : Int) (hr : 0 ≤ pa ∧ pa < 12 ∧ 0 ≤ x ∧ x < 4) : tl_Met l X yX2_want cX2_want 3 ((Option.some FieldType.int)) 1 (0) (0) [.ref (mo), .int (iI (pa)), .int (iI (x))] σ (tl_Qi X (fun r σ' => r = iI (M.2 2 (4 * pa + x)) ∧ σ = σ')) := by
  refine tl_start (by decide) (Nat.le_of_ble_eq_true rfl) (fun p e s m below meth c ls C hr hml hlk hnm hS hl => ?_)
  have hl : lv_has ls 3 [(0, .ref (mo)), (1, .int (iI (pa))), (2, .int (iI (x)))] := hl
  obtain ⟨hm, h0, h1, h2, h3, h4, h5, hd⟩ := id hM
  obtain ⟨hN, hB, hPt, hJ, hA, hWn⟩ := id hI
  refine lv_aload_n C.1 C.2.1 dX2_want_0 rfl (lv_at hl 0 rfl) ?_
  refine gf_X2_16_8 C hS hm rfl dX2_want_1 ?_
  refine ti_const C.1 C.2.1 dX2_want_4 ?_
  refine lv_iload_n C.1 C.2.1 dX2_want_5 rfl (lv_at hl 1 rfl) ?_
  refine ti_imul C.1 C.2.1 dX2_want_6 ?_
  refine lv_iload_n C.1 C.2.1 dX2_want_7 rfl (lv_at hl 2 rfl) ?_
  refine ti_iadd C.1 C.2.1 dX2_want_8 ?_
  refine h_ialdZ C hS h2 (by omega) (by omega) (by omega) dX2_want_9 ?_
  have hb_1 := hB 2 (((4 * pa) + x))
  exact r_i C hr hlk hS ⟨rfl, rfl⟩ dX2_want_10

theorem gf_X2_30_8 {p : Program} {l : Launch} {e : Env} {R : Room} {s : State} {m : MethodId} {args : Array Value} {below : List Frame} {meth : Method} {c : Code} {H : Heap} {locs : List Loc} {cells slots : Nat} {Q : State → Prop} {cc : ByteArray} {pc : Nat} {ls : Array Slot} {rest : List Value} {X : tl_X} {σ : tl_H} {a : Nat} {fs : List Value} {v : Value} (C : tl_C X p s m args c cc RX2) (hS : tl_S X s σ H locs) (he : σ a = some (oO 8 fs)) (hv : fs[11]? = some v) (hdg : decode cc pc = .ok (.getfield 30, 3)) (kk : W p l e R s m args below meth c H locs cells slots Q (F0 m (pc + 3) ls (v :: rest))) : W p l e R s m args below meth c H locs cells slots Q (F0 m pc ls (.ref a :: rest)) :=
  h_get (ref := "TimberListModel") C hS in_X2 rfl 11 (by decide) q1738 (fun _ h => h) he hv hdg kk
set_option maxHeartbeats 4000000 in
theorem m2_isOn (l : Launch) (X : tl_X) (σ : tl_H) (mo : Nat) (ad : Nat → Nat) (M : mS) (hM : MD X σ mo ad M) (hI : mI M) (pa b : Int) (hr : 0 ≤ pa ∧ pa < 216 ∧ -2147483648 ≤ b ∧ b ≤ 2147483647) : tl_Met l X yX2_isOn cX2_isOn 3 ((Option.some FieldType.boolean)) 1 (0) (0) [.ref (mo), .int (iI (pa)), .int (iI (b))] σ (tl_Qi X (fun r σ' => r = iI (tb (decide (M.2 4 (4 * pa) = b))) ∧ σ = σ')) := by
  refine tl_start (by decide) (Nat.le_of_ble_eq_true rfl) (fun p e s m below meth c ls C hr hml hlk hnm hS hl => ?_)
  have hl : lv_has ls 3 [(0, .ref (mo)), (1, .int (iI (pa))), (2, .int (iI (b)))] := hl
  obtain ⟨hm, h0, h1, h2, h3, h4, h5, hd⟩ := id hM
  obtain ⟨hN, hB, hPt, hJ, hA, hWn⟩ := id hI
  refine lv_aload_n C.1 C.2.1 dX2_isOn_0 rfl (lv_at hl 0 rfl) ?_
  refine gf_X2_30_8 C hS hm rfl dX2_isOn_1 ?_
  refine ti_const C.1 C.2.1 dX2_isOn_4 ?_
  refine lv_iload_n C.1 C.2.1 dX2_isOn_5 rfl (lv_at hl 1 rfl) ?_
  refine ti_imul C.1 C.2.1 dX2_isOn_6 ?_
  refine h_ialdZ C hS h4 (by omega) (by omega) (by omega) dX2_isOn_7 ?_
  have hb_1 := hB 4 ((4 * pa))
  refine lv_iload_n C.1 C.2.1 dX2_isOn_8 rfl (lv_at hl 2 rfl) ?_
  refine ti_icmp_ne (tgt := 16) C.1 C.2.1 dX2_isOn_9 (by decide) ⟨by omega, by omega⟩ ⟨by omega, by omega⟩ (fun hc_2 => ?_) (fun hc_2 => ?_)
  · skip
    refine ti_const C.1 C.2.1 dX2_isOn_16 ?_
    exact r_z (z := 0) C hr hlk hS (by first | exact tb01 _ | omega | decide) ⟨congrArg iI (tb_f (by omega)).symm, rfl⟩ dX2_isOn_17
  · skip
    refine ti_const C.1 C.2.1 dX2_isOn_12 ?_
    refine lv_goto (tgt := 17) C.1 C.2.1 dX2_isOn_13 (by decide) ?_
    exact r_z (z := 1) C hr hlk hS (by first | exact tb01 _ | omega | decide) ⟨congrArg iI (tb_t (by omega)).symm, rfl⟩ dX2_isOn_17

set_option maxHeartbeats 4000000 in
theorem m2_from (l : Launch) (X : tl_X) (σ : tl_H) (mo : Nat) (ad : Nat → Nat) (M : mS) (hM : MD X σ mo ad M) (hI : mI M) (pa : Int) (hr : 0 ≤ pa ∧ pa < 216) : tl_Met l X yX2_from cX2_from 2 ((Option.some FieldType.int)) 1 (0) (0) [.ref (mo), .int (iI (pa))] σ (tl_Qi X (fun r σ' => r = iI (M.2 4 (4 * pa + 1)) ∧ σ = σ')) := by
  refine tl_start (by decide) (Nat.le_of_ble_eq_true rfl) (fun p e s m below meth c ls C hr hml hlk hnm hS hl => ?_)
  have hl : lv_has ls 2 [(0, .ref (mo)), (1, .int (iI (pa)))] := hl
  obtain ⟨hm, h0, h1, h2, h3, h4, h5, hd⟩ := id hM
  obtain ⟨hN, hB, hPt, hJ, hA, hWn⟩ := id hI
  refine lv_aload_n C.1 C.2.1 dX2_from_0 rfl (lv_at hl 0 rfl) ?_
  refine gf_X2_30_8 C hS hm rfl dX2_from_1 ?_
  refine ti_const C.1 C.2.1 dX2_from_4 ?_
  refine lv_iload_n C.1 C.2.1 dX2_from_5 rfl (lv_at hl 1 rfl) ?_
  refine ti_imul C.1 C.2.1 dX2_from_6 ?_
  refine ti_const C.1 C.2.1 dX2_from_7 ?_
  refine ti_iadd C.1 C.2.1 dX2_from_8 ?_
  refine h_ialdZ C hS h4 (by omega) (by omega) (by omega) dX2_from_9 ?_
  have hb_1 := hB 4 (((4 * pa) + 1))
  exact r_i C hr hlk hS ⟨rfl, rfl⟩ dX2_from_10

set_option maxHeartbeats 4000000 in
theorem m2_to (l : Launch) (X : tl_X) (σ : tl_H) (mo : Nat) (ad : Nat → Nat) (M : mS) (hM : MD X σ mo ad M) (hI : mI M) (pa : Int) (hr : 0 ≤ pa ∧ pa < 216) : tl_Met l X yX2_to cX2_to 2 ((Option.some FieldType.int)) 1 (0) (0) [.ref (mo), .int (iI (pa))] σ (tl_Qi X (fun r σ' => r = iI (M.2 4 (4 * pa + 2)) ∧ σ = σ')) := by
  refine tl_start (by decide) (Nat.le_of_ble_eq_true rfl) (fun p e s m below meth c ls C hr hml hlk hnm hS hl => ?_)
  have hl : lv_has ls 2 [(0, .ref (mo)), (1, .int (iI (pa)))] := hl
  obtain ⟨hm, h0, h1, h2, h3, h4, h5, hd⟩ := id hM
  obtain ⟨hN, hB, hPt, hJ, hA, hWn⟩ := id hI
  refine lv_aload_n C.1 C.2.1 dX2_to_0 rfl (lv_at hl 0 rfl) ?_
  refine gf_X2_30_8 C hS hm rfl dX2_to_1 ?_
  refine ti_const C.1 C.2.1 dX2_to_4 ?_
  refine lv_iload_n C.1 C.2.1 dX2_to_5 rfl (lv_at hl 1 rfl) ?_
  refine ti_imul C.1 C.2.1 dX2_to_6 ?_
  refine ti_const C.1 C.2.1 dX2_to_7 ?_
  refine ti_iadd C.1 C.2.1 dX2_to_8 ?_
  refine h_ialdZ C hS h4 (by omega) (by omega) (by omega) dX2_to_9 ?_
  have hb_1 := hB 4 (((4 * pa) + 2))
  exact r_i C hr hlk hS ⟨rfl, rfl⟩ dX2_to_10

set_option maxHeartbeats 4000000 in
theorem m2_partOf (l : Launch) (X : tl_X) (σ : tl_H) (mo : Nat) (ad : Nat → Nat) (M : mS) (hM : MD X σ mo ad M) (hI : mI M) (pa : Int) (hr : 0 ≤ pa ∧ pa < 216) : tl_Met l X yX2_partOf cX2_partOf 2 ((Option.some FieldType.int)) 1 (0) (0) [.ref (mo), .int (iI (pa))] σ (tl_Qi X (fun r σ' => r = iI (M.2 4 (4 * pa + 3)) ∧ σ = σ')) := by
  refine tl_start (by decide) (Nat.le_of_ble_eq_true rfl) (fun p e s m below meth c ls C hr hml hlk hnm hS hl => ?_)
  have hl : lv_has ls 2 [(0, .ref (mo)), (1, .int (iI (pa)))] := hl
  obtain ⟨hm, h0, h1, h2, h3, h4, h5, hd⟩ := id hM
  obtain ⟨hN, hB, hPt, hJ, hA, hWn⟩ := id hI
  refine lv_aload_n C.1 C.2.1 dX2_partOf_0 rfl (lv_at hl 0 rfl) ?_
  refine gf_X2_30_8 C hS hm rfl dX2_partOf_1 ?_
  refine ti_const C.1 C.2.1 dX2_partOf_4 ?_
  refine lv_iload_n C.1 C.2.1 dX2_partOf_5 rfl (lv_at hl 1 rfl) ?_
  refine ti_imul C.1 C.2.1 dX2_partOf_6 ?_
  refine ti_const C.1 C.2.1 dX2_partOf_7 ?_
  refine ti_iadd C.1 C.2.1 dX2_partOf_8 ?_
  refine h_ialdZ C hS h4 (by omega) (by omega) (by omega) dX2_partOf_9 ?_
  have hb_1 := hB 4 (((4 * pa) + 3))
  exact r_i C hr hlk hS ⟨rfl, rfl⟩ dX2_partOf_10

theorem gf_X2_60_8 {p : Program} {l : Launch} {e : Env} {R : Room} {s : State} {m : MethodId} {args : Array Value} {below : List Frame} {meth : Method} {c : Code} {H : Heap} {locs : List Loc} {cells slots : Nat} {Q : State → Prop} {cc : ByteArray} {pc : Nat} {ls : Array Slot} {rest : List Value} {X : tl_X} {σ : tl_H} {a : Nat} {fs : List Value} {v : Value} (C : tl_C X p s m args c cc RX2) (hS : tl_S X s σ H locs) (he : σ a = some (oO 8 fs)) (hv : fs[3]? = some v) (hdg : decode cc pc = .ok (.getfield 60, 3)) (kk : W p l e R s m args below meth c H locs cells slots Q (F0 m (pc + 3) ls (v :: rest))) : W p l e R s m args below meth c H locs cells slots Q (F0 m pc ls (.ref a :: rest)) :=
  h_get (ref := "TimberListModel") C hS in_X2 rfl 3 (by decide) q1730 (fun _ h => h) he hv hdg kk
theorem gf_X2_13_8 {p : Program} {l : Launch} {e : Env} {R : Room} {s : State} {m : MethodId} {args : Array Value} {below : List Frame} {meth : Method} {c : Code} {H : Heap} {locs : List Loc} {cells slots : Nat} {Q : State → Prop} {cc : ByteArray} {pc : Nat} {ls : Array Slot} {rest : List Value} {X : tl_X} {σ : tl_H} {a : Nat} {fs : List Value} {v : Value} (C : tl_C X p s m args c cc RX2) (hS : tl_S X s σ H locs) (he : σ a = some (oO 8 fs)) (hv : fs[4]? = some v) (hdg : decode cc pc = .ok (.getfield 13, 3)) (kk : W p l e R s m args below meth c H locs cells slots Q (F0 m (pc + 3) ls (v :: rest))) : W p l e R s m args below meth c H locs cells slots Q (F0 m pc ls (.ref a :: rest)) :=
  h_get (ref := "TimberListModel") C hS in_X2 rfl 4 (by decide) q1731 (fun _ h => h) he hv hdg kk
set_option maxHeartbeats 4000000 in
theorem m2_gradeAt (l : Launch) (X : tl_X) (σ : tl_H) (mo : Nat) (ad : Nat → Nat) (M : mS) (hM : MD X σ mo ad M) (hI : mI M) (b pl : Int) (hr : 0 ≤ b ∧ b < 10 ∧ -1000000 ≤ pl ∧ pl ≤ 1000000) : tl_Met l X yX2_gradeAt cX2_gradeAt 5 ((Option.some FieldType.int)) 2 (0) (0) [.ref (mo), .int (iI (b)), .int (iI (pl))] σ (tl_Qi X (fun r σ' => r = iI (mGradeAt M b pl) ∧ σ = σ')) := by
  refine tl_start (by decide) (Nat.le_of_ble_eq_true rfl) (fun p e s m below meth c ls C hr hml hlk hnm hS hl => ?_)
  have hl : lv_has ls 5 [(0, .ref (mo)), (1, .int (iI (b))), (2, .int (iI (pl)))] := hl
  obtain ⟨hm, h0, h1, h2, h3, h4, h5, hd⟩ := id hM
  obtain ⟨hN, hB, hPt, hJ, hA, hWn⟩ := id hI
  refine lv_aload_n C.1 C.2.1 dX2_gradeAt_0 rfl (lv_at hl 0 rfl) ?_
  refine gf_X2_9_8 C hS hm rfl dX2_gradeAt_1 ?_
  refine ti_const C.1 C.2.1 dX2_gradeAt_4 ?_
  refine lv_iload_n C.1 C.2.1 dX2_gradeAt_5 rfl (lv_at hl 1 rfl) ?_
  refine ti_imul C.1 C.2.1 dX2_gradeAt_6 ?_
  refine ti_const C.1 C.2.1 dX2_gradeAt_7 ?_
  refine ti_iadd C.1 C.2.1 dX2_gradeAt_8 ?_
  refine h_ialdZ C hS h0 (by omega) (by omega) (by omega) dX2_gradeAt_9 ?_
  have hb_1 := hB 0 (((3 * b) + 2))
  refine lv_istore_n (lv' := [(3, .int (iI (((M.2 0) (((3 * b) + 2)))))), (0, .ref (mo)), (1, .int (iI (b))), (2, .int (iI (pl)))]) C.1 C.2.1 dX2_gradeAt_10 rfl hl (by decide) rfl (fun ls hl => ?_)
  refine ti_const C.1 C.2.1 dX2_gradeAt_11 ?_
  refine lv_istore (lv' := [(4, .int (iI (0))), (3, .int (iI (((M.2 0) (((3 * b) + 2)))))), (0, .ref (mo)), (1, .int (iI (b))), (2, .int (iI (pl)))]) C.1 C.2.1 dX2_gradeAt_12 hl (by decide) rfl (fun ls hl => ?_)
  have loop_2 : ∀ (n_3 : Nat) (d : Int) (g : Int), (0 ≤ d ∧ d ≤ M.1 2 ∧ -20000 ≤ g ∧ g ≤ 20000) ∧ lp (mGrF M b pl) d (M.1 2) g = mGradeAt M b pl → M.1 2 - d < (n_3 : Int) → ∀ (H : Heap) (locs : List Loc) (ls : Array Slot), tl_S X s σ H locs → lv_has ls 5 [(4, .int (iI (d))), (3, .int (iI (g))), (0, .ref (mo)), (1, .int (iI (b))), (2, .int (iI (pl)))] → W p l e (tl_rm 2 (0) (0)) s m ([.ref (mo), .int (iI (b)), .int (iI (pl))] : List Value).toArray below meth c H locs (0) (0) (MQ below (tl_Qi X (fun r σ' => r = iI (mGradeAt M b pl) ∧ σ = σ')) ([.ref (mo), .int (iI (b)), .int (iI (pl))] : List Value).toArray s (0) (0) (tl_A X)) (F0 m 14 ls []) := by
    intro n_3
    induction n_3 with
    | zero => intro d g hinv hms; omega
    | succ n_3 ih_4 =>
      intro d g hinv hms_5  H locs ls hS hl
      obtain ⟨hv, hR⟩ := hinv
      refine lv_iload C.1 C.2.1 dX2_gradeAt_14 (lv_at hl 0 rfl) ?_
      refine lv_aload_n C.1 C.2.1 dX2_gradeAt_16 rfl (lv_at hl 2 rfl) ?_
      refine gf_X2_60_8 C hS hm rfl dX2_gradeAt_17 ?_
      refine ti_icmp_ge (tgt := 89) C.1 C.2.1 dX2_gradeAt_20 (by decide) ⟨by omega, by omega⟩ ⟨by omega, by omega⟩ (fun hc_6 => ?_) (fun hc_6 => ?_)
      · skip
        refine lv_iload_n C.1 C.2.1 dX2_gradeAt_89 rfl (lv_at hl 1 rfl) ?_
        exact r_i C hr hlk hS ⟨congrArg iI (lp_ex hR (by omega)), rfl⟩ dX2_gradeAt_90
      · skip
        refine lv_aload_n C.1 C.2.1 dX2_gradeAt_23 rfl (lv_at hl 2 rfl) ?_
        refine gf_X2_13_8 C hS hm rfl dX2_gradeAt_24 ?_
        refine ti_const C.1 C.2.1 dX2_gradeAt_27 ?_
        refine lv_iload C.1 C.2.1 dX2_gradeAt_28 (lv_at hl 0 rfl) ?_
        refine ti_imul C.1 C.2.1 dX2_gradeAt_30 ?_
        refine h_ialdZ C hS h1 (by omega) (by omega) (by omega) dX2_gradeAt_31 ?_
        have hb_7 := hB 1 ((4 * d))
        refine lv_iload_n C.1 C.2.1 dX2_gradeAt_32 rfl (lv_at hl 3 rfl) ?_
        refine ti_icmp_ne (tgt := 83) C.1 C.2.1 dX2_gradeAt_33 (by decide) ⟨by omega, by omega⟩ ⟨by omega, by omega⟩ (fun hc_8 => ?_) (fun hc_8 => ?_)
        · skip
          refine ti_iinc (lv' := [(4, .int (iI ((d + 1)))), (3, .int (iI (g))), (0, .ref (mo)), (1, .int (iI (b))), (2, .int (iI (pl)))]) C.1 C.2.1 dX2_gradeAt_83 hl (k := 0) rfl (by decide) rfl (fun ls hl => ?_)
          refine lv_goto (tgt := 14) C.1 C.2.1 dX2_gradeAt_86 (by decide) ?_
          exact ih_4 ((d + 1)) (g) ⟨by omega, lp_bk hR (by omega) (by unfold mGrF; split <;> omega)⟩ (by omega) _ _ _ hS (lv_sub hl [0, 1, 2, 3, 4] rfl)
        · skip
          refine lv_iload_n C.1 C.2.1 dX2_gradeAt_36 rfl (lv_at hl 4 rfl) ?_
          refine lv_aload_n C.1 C.2.1 dX2_gradeAt_37 rfl (lv_at hl 2 rfl) ?_
          refine gf_X2_13_8 C hS hm rfl dX2_gradeAt_38 ?_
          refine ti_const C.1 C.2.1 dX2_gradeAt_41 ?_
          refine lv_iload C.1 C.2.1 dX2_gradeAt_42 (lv_at hl 0 rfl) ?_
          refine ti_imul C.1 C.2.1 dX2_gradeAt_44 ?_
          refine ti_const C.1 C.2.1 dX2_gradeAt_45 ?_
          refine ti_iadd C.1 C.2.1 dX2_gradeAt_46 ?_
          refine h_ialdZ C hS h1 (by omega) (by omega) (by omega) dX2_gradeAt_47 ?_
          have hb_9 := hB 1 (((4 * d) + 1))
          refine lv_aload_n C.1 C.2.1 dX2_gradeAt_48 rfl (lv_at hl 2 rfl) ?_
          refine gf_X2_13_8 C hS hm rfl dX2_gradeAt_49 ?_
          refine ti_const C.1 C.2.1 dX2_gradeAt_52 ?_
          refine lv_iload C.1 C.2.1 dX2_gradeAt_53 (lv_at hl 0 rfl) ?_
          refine ti_imul C.1 C.2.1 dX2_gradeAt_55 ?_
          refine ti_const C.1 C.2.1 dX2_gradeAt_56 ?_
          refine ti_iadd C.1 C.2.1 dX2_gradeAt_57 ?_
          refine h_ialdZ C hS h1 (by omega) (by omega) (by omega) dX2_gradeAt_58 ?_
          have hb_10 := hB 1 (((4 * d) + 2))
          refine ti_const C.1 C.2.1 dX2_gradeAt_59 ?_
          refine ti_isub C.1 C.2.1 dX2_gradeAt_60 ?_
          refine tl_ci (t_S (n := 3) C hml hS (m2_isIn l X σ (pl) (((M.2 1) (((4 * d) + 1)))) ((((M.2 1) (((4 * d) + 2))) - 1)) (by omega)) q1782 q1783 q53 q1784 (by decide +kernel) rfl hl.1 rfl (Nat.le_of_ble_eq_true rfl) dX2_gradeAt_61 ⟨Nat.le_of_ble_eq_true rfl, Nat.le_of_ble_eq_true rfl⟩ ⟨Nat.le_refl _, Nat.le_refl _⟩) hS (fun r_11 σ_13 H locs hP_12 hS => ?_)
          obtain ⟨rfl, rfl⟩ := hP_12
          refine ti_tb_eq (tgt := 83) C.1 C.2.1 dX2_gradeAt_64 (by decide) (fun hc_14 => ?_) (fun hc_14 => ?_)
          · skip
            refine ti_iinc (lv' := [(4, .int (iI ((d + 1)))), (3, .int (iI (g))), (0, .ref (mo)), (1, .int (iI (b))), (2, .int (iI (pl)))]) C.1 C.2.1 dX2_gradeAt_83 hl (k := 0) rfl (by decide) rfl (fun ls hl => ?_)
            refine lv_goto (tgt := 14) C.1 C.2.1 dX2_gradeAt_86 (by decide) ?_
            exact ih_4 ((d + 1)) (g) ⟨by omega, lp_bk hR (by omega) (by unfold mGrF; split <;> omega)⟩ (by omega) _ _ _ hS (lv_sub hl [0, 1, 2, 3, 4] rfl)
          · skip
            refine lv_iload_n C.1 C.2.1 dX2_gradeAt_67 rfl (lv_at hl 1 rfl) ?_
            refine lv_aload_n C.1 C.2.1 dX2_gradeAt_68 rfl (lv_at hl 2 rfl) ?_
            refine gf_X2_13_8 C hS hm rfl dX2_gradeAt_69 ?_
            refine ti_const C.1 C.2.1 dX2_gradeAt_72 ?_
            refine lv_iload C.1 C.2.1 dX2_gradeAt_73 (lv_at hl 0 rfl) ?_
            refine ti_imul C.1 C.2.1 dX2_gradeAt_75 ?_
            refine ti_const C.1 C.2.1 dX2_gradeAt_76 ?_
            refine ti_iadd C.1 C.2.1 dX2_gradeAt_77 ?_
            refine h_ialdZ C hS h1 (by omega) (by omega) (by omega) dX2_gradeAt_78 ?_
            have hb_15 := hB 1 (((4 * d) + 3))
            refine ti_max C hml hl.1 q1841 ⟨by omega, by omega⟩ ⟨by omega, by omega⟩ dX2_gradeAt_79 (by show 1 ≤ 2; decide) (by show 40 ≤ 40 * 2; decide) (Nat.le_of_ble_eq_true rfl) (Nat.le_refl _) (Nat.le_refl _) ?_
            refine lv_istore_n (lv' := [(3, .int (iI ((max (g) (((M.2 1) (((4 * d) + 3)))))))), (4, .int (iI (d))), (0, .ref (mo)), (1, .int (iI (b))), (2, .int (iI (pl)))]) C.1 C.2.1 dX2_gradeAt_82 rfl hl (by decide) rfl (fun ls hl => ?_)
            refine ti_iinc (lv' := [(4, .int (iI ((d + 1)))), (3, .int (iI ((max (g) (((M.2 1) (((4 * d) + 3)))))))), (0, .ref (mo)), (1, .int (iI (b))), (2, .int (iI (pl)))]) C.1 C.2.1 dX2_gradeAt_83 hl (k := 1) rfl (by decide) rfl (fun ls hl => ?_)
            refine lv_goto (tgt := 14) C.1 C.2.1 dX2_gradeAt_86 (by decide) ?_
            exact ih_4 ((d + 1)) ((max (g) (((M.2 1) (((4 * d) + 3)))))) ⟨by omega, lp_bk hR (by omega) (by unfold mGrF; split <;> omega)⟩ (by omega) _ _ _ hS (lv_sub hl [0, 1, 2, 3, 4] rfl)
  exact loop_2 (((M.1 2 - (0) : Int)).toNat + 1) (0) (((M.2 0) (((3 * b) + 2)))) ⟨by omega, rfl⟩ (by omega) _ _ _ hS (lv_sub hl [0, 1, 2, 3, 4] rfl)

set_option maxHeartbeats 4000000 in
theorem m2_nextChange (l : Launch) (X : tl_X) (σ : tl_H) (mo : Nat) (ad : Nat → Nat) (M : mS) (hM : MD X σ mo ad M) (hI : mI M) (b fr : Int) (hr : 0 ≤ b ∧ b < 10 ∧ -1000000 ≤ fr ∧ fr ≤ 1000000) : tl_Met l X yX2_nextChange cX2_nextChange 5 ((Option.some FieldType.int)) 2 (0) (0) [.ref (mo), .int (iI (b)), .int (iI (fr))] σ (tl_Qi X (fun r σ' => r = iI (mNext M b fr) ∧ σ = σ')) := by
  refine tl_start (by decide) (Nat.le_of_ble_eq_true rfl) (fun p e s m below meth c ls C hr hml hlk hnm hS hl => ?_)
  have hl : lv_has ls 5 [(0, .ref (mo)), (1, .int (iI (b))), (2, .int (iI (fr)))] := hl
  obtain ⟨hm, h0, h1, h2, h3, h4, h5, hd⟩ := id hM
  obtain ⟨hN, hB, hPt, hJ, hA, hWn⟩ := id hI
  refine lv_aload_n C.1 C.2.1 dX2_nextChange_0 rfl (lv_at hl 0 rfl) ?_
  refine lv_iload_n C.1 C.2.1 dX2_nextChange_1 rfl (lv_at hl 1 rfl) ?_
  have hb_1 := hB 0 (3 * b)
  refine tl_ci (t_V (n := 1) (ci := 8) C hml hS (m2_length l X σ mo ad M hM hI (b) (by omega)) q1797 q1799 qs23 q53 q1800 (by decide +kernel) hm rfl rfl hl.1 rfl (Nat.le_of_ble_eq_true rfl) dX2_nextChange_2 ⟨Nat.le_of_ble_eq_true rfl, Nat.le_of_ble_eq_true rfl⟩ ⟨Nat.le_refl _, Nat.le_refl _⟩) hS (fun r_2 σ_4 H locs hP_3 hS => ?_)
  obtain ⟨rfl, rfl⟩ := hP_3
  refine lv_istore_n (lv' := [(3, .int (iI ((M.2 0 (3 * b))))), (0, .ref (mo)), (1, .int (iI (b))), (2, .int (iI (fr)))]) C.1 C.2.1 dX2_nextChange_5 rfl hl (by decide) rfl (fun ls hl => ?_)
  refine ti_const C.1 C.2.1 dX2_nextChange_6 ?_
  refine lv_istore (lv' := [(4, .int (iI (0))), (3, .int (iI ((M.2 0 (3 * b))))), (0, .ref (mo)), (1, .int (iI (b))), (2, .int (iI (fr)))]) C.1 C.2.1 dX2_nextChange_7 hl (by decide) rfl (fun ls hl => ?_)
  have loop_5 : ∀ (n_6 : Nat) (d : Int) (nx : Int), (0 ≤ d ∧ d ≤ M.1 2 ∧ -20000 ≤ nx ∧ nx ≤ 20000) ∧ lp (mNcF M b fr) d (M.1 2) nx = mNext M b fr → M.1 2 - d < (n_6 : Int) → ∀ (H : Heap) (locs : List Loc) (ls : Array Slot), tl_S X s σ H locs → lv_has ls 5 [(4, .int (iI (d))), (3, .int (iI (nx))), (0, .ref (mo)), (1, .int (iI (b))), (2, .int (iI (fr)))] → W p l e (tl_rm 2 (0) (0)) s m ([.ref (mo), .int (iI (b)), .int (iI (fr))] : List Value).toArray below meth c H locs (0) (0) (MQ below (tl_Qi X (fun r σ' => r = iI (mNext M b fr) ∧ σ = σ')) ([.ref (mo), .int (iI (b)), .int (iI (fr))] : List Value).toArray s (0) (0) (tl_A X)) (F0 m 9 ls []) := by
    intro n_6
    induction n_6 with
    | zero => intro d nx hinv hms; omega
    | succ n_6 ih_7 =>
      intro d nx hinv hms_8  H locs ls hS hl
      obtain ⟨hv, hR⟩ := hinv
      refine lv_iload C.1 C.2.1 dX2_nextChange_9 (lv_at hl 0 rfl) ?_
      refine lv_aload_n C.1 C.2.1 dX2_nextChange_11 rfl (lv_at hl 2 rfl) ?_
      refine gf_X2_60_8 C hS hm rfl dX2_nextChange_12 ?_
      refine ti_icmp_ge (tgt := 102) C.1 C.2.1 dX2_nextChange_15 (by decide) ⟨by omega, by omega⟩ ⟨by omega, by omega⟩ (fun hc_9 => ?_) (fun hc_9 => ?_)
      · skip
        refine lv_iload_n C.1 C.2.1 dX2_nextChange_102 rfl (lv_at hl 1 rfl) ?_
        exact r_i C hr hlk hS ⟨congrArg iI (lp_ex hR (by omega)), rfl⟩ dX2_nextChange_103
      · skip
        refine lv_aload_n C.1 C.2.1 dX2_nextChange_18 rfl (lv_at hl 2 rfl) ?_
        refine gf_X2_13_8 C hS hm rfl dX2_nextChange_19 ?_
        refine ti_const C.1 C.2.1 dX2_nextChange_22 ?_
        refine lv_iload C.1 C.2.1 dX2_nextChange_23 (lv_at hl 0 rfl) ?_
        refine ti_imul C.1 C.2.1 dX2_nextChange_25 ?_
        refine h_ialdZ C hS h1 (by omega) (by omega) (by omega) dX2_nextChange_26 ?_
        have hb_10 := hB 1 ((4 * d))
        refine lv_iload_n C.1 C.2.1 dX2_nextChange_27 rfl (lv_at hl 3 rfl) ?_
        refine ti_icmp_eq (tgt := 34) C.1 C.2.1 dX2_nextChange_28 (by decide) ⟨by omega, by omega⟩ ⟨by omega, by omega⟩ (fun hc_11 => ?_) (fun hc_11 => ?_)
        · skip
          refine lv_aload_n C.1 C.2.1 dX2_nextChange_34 rfl (lv_at hl 2 rfl) ?_
          refine gf_X2_13_8 C hS hm rfl dX2_nextChange_35 ?_
          refine ti_const C.1 C.2.1 dX2_nextChange_38 ?_
          refine lv_iload C.1 C.2.1 dX2_nextChange_39 (lv_at hl 0 rfl) ?_
          refine ti_imul C.1 C.2.1 dX2_nextChange_41 ?_
          refine ti_const C.1 C.2.1 dX2_nextChange_42 ?_
          refine ti_iadd C.1 C.2.1 dX2_nextChange_43 ?_
          refine h_ialdZ C hS h1 (by omega) (by omega) (by omega) dX2_nextChange_44 ?_
          have hb_12 := hB 1 (((4 * d) + 1))
          refine lv_iload_n C.1 C.2.1 dX2_nextChange_45 rfl (lv_at hl 4 rfl) ?_
          refine ti_icmp_le (tgt := 65) C.1 C.2.1 dX2_nextChange_46 (by decide) ⟨by omega, by omega⟩ ⟨by omega, by omega⟩ (fun hc_13 => ?_) (fun hc_13 => ?_)
          · skip
            refine lv_aload_n C.1 C.2.1 dX2_nextChange_65 rfl (lv_at hl 2 rfl) ?_
            refine gf_X2_13_8 C hS hm rfl dX2_nextChange_66 ?_
            refine ti_const C.1 C.2.1 dX2_nextChange_69 ?_
            refine lv_iload C.1 C.2.1 dX2_nextChange_70 (lv_at hl 0 rfl) ?_
            refine ti_imul C.1 C.2.1 dX2_nextChange_72 ?_
            refine ti_const C.1 C.2.1 dX2_nextChange_73 ?_
            refine ti_iadd C.1 C.2.1 dX2_nextChange_74 ?_
            refine h_ialdZ C hS h1 (by omega) (by omega) (by omega) dX2_nextChange_75 ?_
            have hb_14 := hB 1 (((4 * d) + 2))
            refine lv_iload_n C.1 C.2.1 dX2_nextChange_76 rfl (lv_at hl 4 rfl) ?_
            refine ti_icmp_le (tgt := 96) C.1 C.2.1 dX2_nextChange_77 (by decide) ⟨by omega, by omega⟩ ⟨by omega, by omega⟩ (fun hc_15 => ?_) (fun hc_15 => ?_)
            · skip
              refine ti_iinc (lv' := [(4, .int (iI ((d + 1)))), (3, .int (iI (nx))), (0, .ref (mo)), (1, .int (iI (b))), (2, .int (iI (fr)))]) C.1 C.2.1 dX2_nextChange_96 hl (k := 0) rfl (by decide) rfl (fun ls hl => ?_)
              refine lv_goto (tgt := 9) C.1 C.2.1 dX2_nextChange_99 (by decide) ?_
              exact ih_7 ((d + 1)) (nx) ⟨by omega, lp_bk hR (by omega) (by unfold mNcF; (repeat' split) <;> omega)⟩ (by omega) _ _ _ hS (lv_sub hl [0, 1, 2, 3, 4] rfl)
            · skip
              refine lv_iload_n C.1 C.2.1 dX2_nextChange_80 rfl (lv_at hl 1 rfl) ?_
              refine lv_aload_n C.1 C.2.1 dX2_nextChange_81 rfl (lv_at hl 2 rfl) ?_
              refine gf_X2_13_8 C hS hm rfl dX2_nextChange_82 ?_
              refine ti_const C.1 C.2.1 dX2_nextChange_85 ?_
              refine lv_iload C.1 C.2.1 dX2_nextChange_86 (lv_at hl 0 rfl) ?_
              refine ti_imul C.1 C.2.1 dX2_nextChange_88 ?_
              refine ti_const C.1 C.2.1 dX2_nextChange_89 ?_
              refine ti_iadd C.1 C.2.1 dX2_nextChange_90 ?_
              refine h_ialdZ C hS h1 (by omega) (by omega) (by omega) dX2_nextChange_91 ?_
              have hb_16 := hB 1 (((4 * d) + 2))
              refine ti_min C hml hl.1 q1854 ⟨by omega, by omega⟩ ⟨by omega, by omega⟩ dX2_nextChange_92 (by show 1 ≤ 2; decide) (by show 40 ≤ 40 * 2; decide) (Nat.le_of_ble_eq_true rfl) (Nat.le_refl _) (Nat.le_refl _) ?_
              refine lv_istore_n (lv' := [(3, .int (iI ((min (nx) (((M.2 1) (((4 * d) + 2)))))))), (4, .int (iI (d))), (0, .ref (mo)), (1, .int (iI (b))), (2, .int (iI (fr)))]) C.1 C.2.1 dX2_nextChange_95 rfl hl (by decide) rfl (fun ls hl => ?_)
              refine ti_iinc (lv' := [(4, .int (iI ((d + 1)))), (3, .int (iI ((min (nx) (((M.2 1) (((4 * d) + 2)))))))), (0, .ref (mo)), (1, .int (iI (b))), (2, .int (iI (fr)))]) C.1 C.2.1 dX2_nextChange_96 hl (k := 1) rfl (by decide) rfl (fun ls hl => ?_)
              refine lv_goto (tgt := 9) C.1 C.2.1 dX2_nextChange_99 (by decide) ?_
              exact ih_7 ((d + 1)) ((min (nx) (((M.2 1) (((4 * d) + 2)))))) ⟨by omega, lp_bk hR (by omega) (by unfold mNcF; (repeat' split) <;> omega)⟩ (by omega) _ _ _ hS (lv_sub hl [0, 1, 2, 3, 4] rfl)
          · skip
            refine lv_iload_n C.1 C.2.1 dX2_nextChange_49 rfl (lv_at hl 1 rfl) ?_
            refine lv_aload_n C.1 C.2.1 dX2_nextChange_50 rfl (lv_at hl 2 rfl) ?_
            refine gf_X2_13_8 C hS hm rfl dX2_nextChange_51 ?_
            refine ti_const C.1 C.2.1 dX2_nextChange_54 ?_
            refine lv_iload C.1 C.2.1 dX2_nextChange_55 (lv_at hl 0 rfl) ?_
            refine ti_imul C.1 C.2.1 dX2_nextChange_57 ?_
            refine ti_const C.1 C.2.1 dX2_nextChange_58 ?_
            refine ti_iadd C.1 C.2.1 dX2_nextChange_59 ?_
            refine h_ialdZ C hS h1 (by omega) (by omega) (by omega) dX2_nextChange_60 ?_
            have hb_17 := hB 1 (((4 * d) + 1))
            refine ti_min C hml hl.1 q1854 ⟨by omega, by omega⟩ ⟨by omega, by omega⟩ dX2_nextChange_61 (by show 1 ≤ 2; decide) (by show 40 ≤ 40 * 2; decide) (Nat.le_of_ble_eq_true rfl) (Nat.le_refl _) (Nat.le_refl _) ?_
            refine lv_istore_n (lv' := [(3, .int (iI ((min (nx) (((M.2 1) (((4 * d) + 1)))))))), (4, .int (iI (d))), (0, .ref (mo)), (1, .int (iI (b))), (2, .int (iI (fr)))]) C.1 C.2.1 dX2_nextChange_64 rfl hl (by decide) rfl (fun ls hl => ?_)
            refine lv_aload_n C.1 C.2.1 dX2_nextChange_65 rfl (lv_at hl 2 rfl) ?_
            refine gf_X2_13_8 C hS hm rfl dX2_nextChange_66 ?_
            refine ti_const C.1 C.2.1 dX2_nextChange_69 ?_
            refine lv_iload C.1 C.2.1 dX2_nextChange_70 (lv_at hl 1 rfl) ?_
            refine ti_imul C.1 C.2.1 dX2_nextChange_72 ?_
            refine ti_const C.1 C.2.1 dX2_nextChange_73 ?_
            refine ti_iadd C.1 C.2.1 dX2_nextChange_74 ?_
            refine h_ialdZ C hS h1 (by omega) (by omega) (by omega) dX2_nextChange_75 ?_
            have hb_18 := hB 1 (((4 * d) + 2))
            refine lv_iload_n C.1 C.2.1 dX2_nextChange_76 rfl (lv_at hl 4 rfl) ?_
            refine ti_icmp_le (tgt := 96) C.1 C.2.1 dX2_nextChange_77 (by decide) ⟨by omega, by omega⟩ ⟨by omega, by omega⟩ (fun hc_19 => ?_) (fun hc_19 => ?_)
            · skip
              refine ti_iinc (lv' := [(4, .int (iI ((d + 1)))), (3, .int (iI ((min (nx) (((M.2 1) (((4 * d) + 1)))))))), (0, .ref (mo)), (1, .int (iI (b))), (2, .int (iI (fr)))]) C.1 C.2.1 dX2_nextChange_96 hl (k := 1) rfl (by decide) rfl (fun ls hl => ?_)
              refine lv_goto (tgt := 9) C.1 C.2.1 dX2_nextChange_99 (by decide) ?_
              exact ih_7 ((d + 1)) ((min (nx) (((M.2 1) (((4 * d) + 1)))))) ⟨by omega, lp_bk hR (by omega) (by unfold mNcF; (repeat' split) <;> omega)⟩ (by omega) _ _ _ hS (lv_sub hl [0, 1, 2, 3, 4] rfl)
            · skip
              refine lv_iload_n C.1 C.2.1 dX2_nextChange_80 rfl (lv_at hl 0 rfl) ?_
              refine lv_aload_n C.1 C.2.1 dX2_nextChange_81 rfl (lv_at hl 2 rfl) ?_
              refine gf_X2_13_8 C hS hm rfl dX2_nextChange_82 ?_
              refine ti_const C.1 C.2.1 dX2_nextChange_85 ?_
              refine lv_iload C.1 C.2.1 dX2_nextChange_86 (lv_at hl 1 rfl) ?_
              refine ti_imul C.1 C.2.1 dX2_nextChange_88 ?_
              refine ti_const C.1 C.2.1 dX2_nextChange_89 ?_
              refine ti_iadd C.1 C.2.1 dX2_nextChange_90 ?_
              refine h_ialdZ C hS h1 (by omega) (by omega) (by omega) dX2_nextChange_91 ?_
              have hb_20 := hB 1 (((4 * d) + 2))
              refine ti_min C hml hl.1 q1854 ⟨by omega, by omega⟩ ⟨by omega, by omega⟩ dX2_nextChange_92 (by show 1 ≤ 2; decide) (by show 40 ≤ 40 * 2; decide) (Nat.le_of_ble_eq_true rfl) (Nat.le_refl _) (Nat.le_refl _) ?_
              refine lv_istore_n (lv' := [(3, .int (iI ((min ((min (nx) (((M.2 1) (((4 * d) + 1)))))) (((M.2 1) (((4 * d) + 2)))))))), (4, .int (iI (d))), (0, .ref (mo)), (1, .int (iI (b))), (2, .int (iI (fr)))]) C.1 C.2.1 dX2_nextChange_95 rfl hl (by decide) rfl (fun ls hl => ?_)
              refine ti_iinc (lv' := [(4, .int (iI ((d + 1)))), (3, .int (iI ((min ((min (nx) (((M.2 1) (((4 * d) + 1)))))) (((M.2 1) (((4 * d) + 2)))))))), (0, .ref (mo)), (1, .int (iI (b))), (2, .int (iI (fr)))]) C.1 C.2.1 dX2_nextChange_96 hl (k := 1) rfl (by decide) rfl (fun ls hl => ?_)
              refine lv_goto (tgt := 9) C.1 C.2.1 dX2_nextChange_99 (by decide) ?_
              exact ih_7 ((d + 1)) ((min ((min (nx) (((M.2 1) (((4 * d) + 1)))))) (((M.2 1) (((4 * d) + 2)))))) ⟨by omega, lp_bk hR (by omega) (by unfold mNcF; (repeat' split) <;> omega)⟩ (by omega) _ _ _ hS (lv_sub hl [0, 1, 2, 3, 4] rfl)
        · skip
          refine lv_goto (tgt := 96) C.1 C.2.1 dX2_nextChange_31 (by decide) ?_
          refine ti_iinc (lv' := [(4, .int (iI ((d + 1)))), (3, .int (iI (nx))), (0, .ref (mo)), (1, .int (iI (b))), (2, .int (iI (fr)))]) C.1 C.2.1 dX2_nextChange_96 hl (k := 0) rfl (by decide) rfl (fun ls hl => ?_)
          refine lv_goto (tgt := 9) C.1 C.2.1 dX2_nextChange_99 (by decide) ?_
          exact ih_7 ((d + 1)) (nx) ⟨by omega, lp_bk hR (by omega) (by unfold mNcF; (repeat' split) <;> omega)⟩ (by omega) _ _ _ hS (lv_sub hl [0, 1, 2, 3, 4] rfl)
  exact loop_5 (((M.1 2 - (0) : Int)).toNat + 1) (0) ((M.2 0 (3 * b))) ⟨by omega, rfl⟩ (by omega) _ _ _ hS (lv_sub hl [0, 1, 2, 3, 4] rfl)

theorem gf_X2_63_8 {p : Program} {l : Launch} {e : Env} {R : Room} {s : State} {m : MethodId} {args : Array Value} {below : List Frame} {meth : Method} {c : Code} {H : Heap} {locs : List Loc} {cells slots : Nat} {Q : State → Prop} {cc : ByteArray} {pc : Nat} {ls : Array Slot} {rest : List Value} {X : tl_X} {σ : tl_H} {a : Nat} {fs : List Value} {v : Value} (C : tl_C X p s m args c cc RX2) (hS : tl_S X s σ H locs) (he : σ a = some (oO 8 fs)) (hv : fs[10]? = some v) (hdg : decode cc pc = .ok (.getfield 63, 3)) (kk : W p l e R s m args below meth c H locs cells slots Q (F0 m (pc + 3) ls (v :: rest))) : W p l e R s m args below meth c H locs cells slots Q (F0 m pc ls (.ref a :: rest)) :=
  h_get (ref := "TimberListModel") C hS in_X2 rfl 10 (by decide) q1737 (fun _ h => h) he hv hdg kk
theorem gf_X2_23_8 {p : Program} {l : Launch} {e : Env} {R : Room} {s : State} {m : MethodId} {args : Array Value} {below : List Frame} {meth : Method} {c : Code} {H : Heap} {locs : List Loc} {cells slots : Nat} {Q : State → Prop} {cc : ByteArray} {pc : Nat} {ls : Array Slot} {rest : List Value} {X : tl_X} {σ : tl_H} {a : Nat} {fs : List Value} {v : Value} (C : tl_C X p s m args c cc RX2) (hS : tl_S X s σ H locs) (he : σ a = some (oO 8 fs)) (hv : fs[8]? = some v) (hdg : decode cc pc = .ok (.getfield 23, 3)) (kk : W p l e R s m args below meth c H locs cells slots Q (F0 m (pc + 3) ls (v :: rest))) : W p l e R s m args below meth c H locs cells slots Q (F0 m pc ls (.ref a :: rest)) :=
  h_get (ref := "TimberListModel") C hS in_X2 rfl 8 (by decide) q1735 (fun _ h => h) he hv hdg kk
set_option maxHeartbeats 4000000 in
theorem m2_onward (l : Launch) (X : tl_X) (σ : tl_H) (mo : Nat) (ad : Nat → Nat) (M : mS) (hM : MD X σ mo ad M) (hI : mI M) (pa ln b pl : Int) (hr : 0 ≤ pa ∧ pa < 12 ∧ 0 ≤ b ∧ b < 10 ∧ -1000000 ≤ pl ∧ pl ≤ 1000000 ∧ -1000000 ≤ ln ∧ ln ≤ 1000000) : tl_Met l X yX2_onward cX2_onward 6 ((Option.some FieldType.int)) 2 (0) (0) [.ref (mo), .int (iI (pa)), .int (iI (ln)), .int (iI (b)), .int (iI (pl))] σ (tl_Qi X (fun r σ' => r = iI (mOnward M pa ln b pl) ∧ σ = σ')) := by
  refine tl_start (by decide) (Nat.le_of_ble_eq_true rfl) (fun p e s m below meth c ls C hr hml hlk hnm hS hl => ?_)
  have hl : lv_has ls 6 [(0, .ref (mo)), (1, .int (iI (pa))), (2, .int (iI (ln))), (3, .int (iI (b))), (4, .int (iI (pl)))] := hl
  obtain ⟨hm, h0, h1, h2, h3, h4, h5, hd⟩ := id hM
  obtain ⟨hN, hB, hPt, hJ, hA, hWn⟩ := id hI
  obtain ⟨rF, erF⟩ : ∃ z, z = lp (mOwF M pa ln b pl) 0 (M.1 2) none := ⟨_, rfl⟩
  obtain ⟨rG, erG⟩ : ∃ z, z = lp (mOwG M ln b pl) 0 (M.1 6) none := ⟨_, rfl⟩
  refine lv_iload C.1 C.2.1 dX2_onward_0 (lv_at hl 4 rfl) ?_
  refine ti_if_lt (tgt := 50) C.1 C.2.1 dX2_onward_2 (by decide) ⟨by omega, by omega⟩ (fun hc_1 => ?_) (fun hc_1 => ?_)
  · skip
    refine ti_sipush C.1 C.2.1 dX2_onward_50 (by decide) ?_
    exact r_i C hr hlk hS ⟨congrArg iI (by unfold mOnward; rw [if_pos (by omega)]), rfl⟩ dX2_onward_53
  · skip
    refine lv_iload C.1 C.2.1 dX2_onward_5 (lv_at hl 4 rfl) ?_
    refine lv_iload_n C.1 C.2.1 dX2_onward_7 rfl (lv_at hl 2 rfl) ?_
    refine ti_iadd C.1 C.2.1 dX2_onward_8 ?_
    refine lv_aload_n C.1 C.2.1 dX2_onward_9 rfl (lv_at hl 0 rfl) ?_
    refine lv_iload_n C.1 C.2.1 dX2_onward_10 rfl (lv_at hl 3 rfl) ?_
    have hb_2 := hB 0 (3 * b)
    refine tl_ci (t_V (n := 1) (ci := 8) C hml hS (m2_length l X σ mo ad M hM hI (b) (by omega)) q1797 q1799 qs23 q53 q1800 (by decide +kernel) hm rfl rfl hl.1 rfl (Nat.le_of_ble_eq_true rfl) dX2_onward_11 ⟨Nat.le_of_ble_eq_true rfl, Nat.le_of_ble_eq_true rfl⟩ ⟨Nat.le_refl _, Nat.le_refl _⟩) hS (fun r_3 σ_5 H locs hP_4 hS => ?_)
    obtain ⟨rfl, rfl⟩ := hP_4
    refine ti_icmp_gt (tgt := 50) C.1 C.2.1 dX2_onward_14 (by decide) ⟨by omega, by omega⟩ ⟨by omega, by omega⟩ (fun hc_6 => ?_) (fun hc_6 => ?_)
    · skip
      refine ti_sipush C.1 C.2.1 dX2_onward_50 (by decide) ?_
      exact r_i C hr hlk hS ⟨congrArg iI (by unfold mOnward; rw [if_pos (by omega)]), rfl⟩ dX2_onward_53
    · skip
      refine lv_aload_n C.1 C.2.1 dX2_onward_17 rfl (lv_at hl 0 rfl) ?_
      refine lv_iload_n C.1 C.2.1 dX2_onward_18 rfl (lv_at hl 3 rfl) ?_
      have hb_7 := hB 0 ((3 * b) + 1)
      refine tl_ci (t_V (n := 1) (ci := 8) C hml hS (m2_width l X σ mo ad M hM hI (b) (by omega)) q1875 q1877 qs35 q53 q1878 (by decide +kernel) hm rfl rfl hl.1 rfl (Nat.le_of_ble_eq_true rfl) dX2_onward_19 ⟨Nat.le_of_ble_eq_true rfl, Nat.le_of_ble_eq_true rfl⟩ ⟨Nat.le_refl _, Nat.le_refl _⟩) hS (fun r_8 σ_10 H locs hP_9 hS => ?_)
      obtain ⟨rfl, rfl⟩ := hP_9
      refine lv_aload_n C.1 C.2.1 dX2_onward_22 rfl (lv_at hl 0 rfl) ?_
      refine lv_iload_n C.1 C.2.1 dX2_onward_23 rfl (lv_at hl 1 rfl) ?_
      refine ti_const C.1 C.2.1 dX2_onward_24 ?_
      have hb_11 := hWn ((4 * pa) + 1)
      refine tl_ci (t_V (n := 2) (ci := 8) C hml hS (m2_want l X σ mo ad M hM hI (pa) (1) (by omega)) q1817 q1819 qs28 q53 q1820 (by decide +kernel) hm rfl rfl hl.1 rfl (Nat.le_of_ble_eq_true rfl) dX2_onward_25 ⟨Nat.le_of_ble_eq_true rfl, Nat.le_of_ble_eq_true rfl⟩ ⟨Nat.le_refl _, Nat.le_refl _⟩) hS (fun r_12 σ_14 H locs hP_13 hS => ?_)
      obtain ⟨rfl, rfl⟩ := hP_13
      refine ti_icmp_lt (tgt := 50) C.1 C.2.1 dX2_onward_28 (by decide) ⟨by omega, by omega⟩ ⟨by omega, by omega⟩ (fun hc_15 => ?_) (fun hc_15 => ?_)
      · skip
        refine ti_sipush C.1 C.2.1 dX2_onward_50 (by decide) ?_
        exact r_i C hr hlk hS ⟨congrArg iI (by unfold mOnward; rw [if_pos (by omega)]), rfl⟩ dX2_onward_53
      · skip
        refine lv_aload_n C.1 C.2.1 dX2_onward_31 rfl (lv_at hl 0 rfl) ?_
        refine gf_X2_9_8 C hS hm rfl dX2_onward_32 ?_
        refine ti_const C.1 C.2.1 dX2_onward_35 ?_
        refine lv_iload_n C.1 C.2.1 dX2_onward_36 rfl (lv_at hl 3 rfl) ?_
        refine ti_imul C.1 C.2.1 dX2_onward_37 ?_
        refine ti_const C.1 C.2.1 dX2_onward_38 ?_
        refine ti_iadd C.1 C.2.1 dX2_onward_39 ?_
        refine h_ialdZ C hS h0 (by omega) (by omega) (by omega) dX2_onward_40 ?_
        have hb_16 := hB 0 (((3 * b) + 2))
        refine lv_aload_n C.1 C.2.1 dX2_onward_41 rfl (lv_at hl 0 rfl) ?_
        refine lv_iload_n C.1 C.2.1 dX2_onward_42 rfl (lv_at hl 1 rfl) ?_
        refine ti_const C.1 C.2.1 dX2_onward_43 ?_
        have hb_17 := hWn ((4 * pa) + 2)
        refine tl_ci (t_V (n := 2) (ci := 8) C hml hS (m2_want l X σ mo ad M hM hI (pa) (2) (by omega)) q1817 q1819 qs28 q53 q1820 (by decide +kernel) hm rfl rfl hl.1 rfl (Nat.le_of_ble_eq_true rfl) dX2_onward_44 ⟨Nat.le_of_ble_eq_true rfl, Nat.le_of_ble_eq_true rfl⟩ ⟨Nat.le_refl _, Nat.le_refl _⟩) hS (fun r_18 σ_20 H locs hP_19 hS => ?_)
        obtain ⟨rfl, rfl⟩ := hP_19
        refine ti_icmp_le (tgt := 54) C.1 C.2.1 dX2_onward_47 (by decide) ⟨by omega, by omega⟩ ⟨by omega, by omega⟩ (fun hc_21 => ?_) (fun hc_21 => ?_)
        · skip
          refine ti_const C.1 C.2.1 dX2_onward_54 ?_
          refine lv_istore (lv' := [(5, .int (iI (0))), (0, .ref (mo)), (1, .int (iI (pa))), (2, .int (iI (ln))), (3, .int (iI (b))), (4, .int (iI (pl)))]) C.1 C.2.1 dX2_onward_55 hl (by decide) rfl (fun ls hl => ?_)
          have loop_22 : ∀ (n_23 : Nat) (d : Int), (0 ≤ d ∧ d ≤ M.1 2) ∧ lp (mOwF M pa ln b pl) d (M.1 2) none = rF → M.1 2 - d < (n_23 : Int) → ∀ (H : Heap) (locs : List Loc) (ls : Array Slot), tl_S X s σ H locs → lv_has ls 6 [(5, .int (iI (d))), (0, .ref (mo)), (1, .int (iI (pa))), (2, .int (iI (ln))), (3, .int (iI (b))), (4, .int (iI (pl)))] → W p l e (tl_rm 2 (0) (0)) s m ([.ref (mo), .int (iI (pa)), .int (iI (ln)), .int (iI (b)), .int (iI (pl))] : List Value).toArray below meth c H locs (0) (0) (MQ below (tl_Qi X (fun r σ' => r = iI (mOnward M pa ln b pl) ∧ σ = σ')) ([.ref (mo), .int (iI (pa)), .int (iI (ln)), .int (iI (b)), .int (iI (pl))] : List Value).toArray s (0) (0) (tl_A X)) (F0 m 57 ls []) := by
            intro n_23
            induction n_23 with
            | zero => intro d hinv hms; omega
            | succ n_23 ih_24 =>
              intro d hinv hms_25  H locs ls hS hl
              obtain ⟨hv, hR⟩ := hinv
              refine lv_iload C.1 C.2.1 dX2_onward_57 (lv_at hl 0 rfl) ?_
              refine lv_aload_n C.1 C.2.1 dX2_onward_59 rfl (lv_at hl 1 rfl) ?_
              refine gf_X2_60_8 C hS hm rfl dX2_onward_60 ?_
              refine ti_icmp_ge (tgt := 151) C.1 C.2.1 dX2_onward_63 (by decide) ⟨by omega, by omega⟩ ⟨by omega, by omega⟩ (fun hc_26 => ?_) (fun hc_26 => ?_)
              · skip
                refine ti_const C.1 C.2.1 dX2_onward_151 ?_
                refine lv_istore (lv' := [(5, .int (iI (0))), (0, .ref (mo)), (1, .int (iI (pa))), (2, .int (iI (ln))), (3, .int (iI (b))), (4, .int (iI (pl)))]) C.1 C.2.1 dX2_onward_152 hl (by decide) rfl (fun ls hl => ?_)
                have loop_27 : ∀ (n_28 : Nat) (q : Int), (0 ≤ q ∧ q ≤ M.1 6) ∧ lp (mOwG M ln b pl) q (M.1 6) none = rG → M.1 6 - q < (n_28 : Int) → ∀ (H : Heap) (locs : List Loc) (ls : Array Slot), tl_S X s σ H locs → lv_has ls 6 [(5, .int (iI (q))), (0, .ref (mo)), (1, .int (iI (pa))), (2, .int (iI (ln))), (3, .int (iI (b))), (4, .int (iI (pl)))] → W p l e (tl_rm 2 (0) (0)) s m ([.ref (mo), .int (iI (pa)), .int (iI (ln)), .int (iI (b)), .int (iI (pl))] : List Value).toArray below meth c H locs (0) (0) (MQ below (tl_Qi X (fun r σ' => r = iI (mOnward M pa ln b pl) ∧ σ = σ')) ([.ref (mo), .int (iI (pa)), .int (iI (ln)), .int (iI (b)), .int (iI (pl))] : List Value).toArray s (0) (0) (tl_A X)) (F0 m 154 ls []) := by
                  intro n_28
                  induction n_28 with
                  | zero => intro q hinv hms; omega
                  | succ n_28 ih_29 =>
                    intro q hinv hms_30  H locs ls hS hl
                    obtain ⟨hv2, hR2⟩ := hinv
                    refine lv_iload C.1 C.2.1 dX2_onward_154 (lv_at hl 0 rfl) ?_
                    refine lv_aload_n C.1 C.2.1 dX2_onward_156 rfl (lv_at hl 1 rfl) ?_
                    refine gf_X2_63_8 C hS hm rfl dX2_onward_157 ?_
                    refine ti_icmp_ge (tgt := 225) C.1 C.2.1 dX2_onward_160 (by decide) ⟨by omega, by omega⟩ ⟨by omega, by omega⟩ (fun hc_31 => ?_) (fun hc_31 => ?_)
                    · skip
                      refine lv_iload C.1 C.2.1 dX2_onward_225 (lv_at hl 5 rfl) ?_
                      exact r_i C hr hlk hS ⟨congrArg iI (by have hx : none = rF := lp_ex hR (by omega); have hy : none = rG := lp_ex hR2 (by omega); unfold mOnward; rw [if_neg (by omega), ← erF, ← hx, ← erG, ← hy]), rfl⟩ dX2_onward_227
                    · skip
                      refine lv_aload_n C.1 C.2.1 dX2_onward_163 rfl (lv_at hl 1 rfl) ?_
                      refine lv_iload C.1 C.2.1 dX2_onward_164 (lv_at hl 0 rfl) ?_
                      refine lv_iload_n C.1 C.2.1 dX2_onward_166 rfl (lv_at hl 4 rfl) ?_
                      refine tl_ci (t_V (n := 2) (ci := 8) C hml hS (m2_isOn l X σ mo ad M hM hI (q) (b) (by omega)) q1801 q1803 qs24 q53 q1804 (by decide +kernel) hm rfl rfl hl.1 rfl (Nat.le_of_ble_eq_true rfl) dX2_onward_167 ⟨Nat.le_of_ble_eq_true rfl, Nat.le_of_ble_eq_true rfl⟩ ⟨Nat.le_refl _, Nat.le_refl _⟩) hS (fun r_32 σ_34 H locs hP_33 hS => ?_)
                      obtain ⟨rfl, rfl⟩ := hP_33
                      refine ti_tb_eq (tgt := 219) C.1 C.2.1 dX2_onward_170 (by decide) (fun hc_35 => ?_) (fun hc_35 => ?_)
                      · skip
                        refine ti_iinc (lv' := [(5, .int (iI ((q + 1)))), (0, .ref (mo)), (1, .int (iI (pa))), (2, .int (iI (ln))), (3, .int (iI (b))), (4, .int (iI (pl)))]) C.1 C.2.1 dX2_onward_219 hl (k := 0) rfl (by decide) rfl (fun ls hl => ?_)
                        refine lv_goto (tgt := 154) C.1 C.2.1 dX2_onward_222 (by decide) ?_
                        exact ih_29 ((q + 1)) ⟨by omega, lp_bk hR2 (by omega) (by show (if _ then _ else _) = _; rw [if_neg (by omega)])⟩ (by omega) _ _ _ hS (lv_sub hl [0, 1, 2, 3, 4, 5] rfl)
                      · skip
                        refine lv_aload_n C.1 C.2.1 dX2_onward_173 rfl (lv_at hl 1 rfl) ?_
                        refine lv_iload C.1 C.2.1 dX2_onward_174 (lv_at hl 0 rfl) ?_
                        have hb_36 := hB 4 ((4 * q) + 1)
                        refine tl_ci (t_V (n := 1) (ci := 8) C hml hS (m2_from l X σ mo ad M hM hI (q) (by omega)) q1805 q1807 qs25 q53 q1808 (by decide +kernel) hm rfl rfl hl.1 rfl (Nat.le_of_ble_eq_true rfl) dX2_onward_176 ⟨Nat.le_of_ble_eq_true rfl, Nat.le_of_ble_eq_true rfl⟩ ⟨Nat.le_refl _, Nat.le_refl _⟩) hS (fun r_37 σ_39 H locs hP_38 hS => ?_)
                        obtain ⟨rfl, rfl⟩ := hP_38
                        refine lv_iload C.1 C.2.1 dX2_onward_179 (lv_at hl 5 rfl) ?_
                        refine lv_iload_n C.1 C.2.1 dX2_onward_181 rfl (lv_at hl 3 rfl) ?_
                        refine ti_iadd C.1 C.2.1 dX2_onward_182 ?_
                        refine lv_aload_n C.1 C.2.1 dX2_onward_183 rfl (lv_at hl 1 rfl) ?_
                        refine gf_X2_23_8 C hS hm rfl dX2_onward_184 ?_
                        refine ti_iadd C.1 C.2.1 dX2_onward_187 ?_
                        refine ti_icmp_ge (tgt := 219) C.1 C.2.1 dX2_onward_188 (by decide) ⟨by omega, by omega⟩ ⟨by omega, by omega⟩ (fun hc_40 => ?_) (fun hc_40 => ?_)
                        · skip
                          refine ti_iinc (lv' := [(5, .int (iI ((q + 1)))), (0, .ref (mo)), (1, .int (iI (pa))), (2, .int (iI (ln))), (3, .int (iI (b))), (4, .int (iI (pl)))]) C.1 C.2.1 dX2_onward_219 hl (k := 0) rfl (by decide) rfl (fun ls hl => ?_)
                          refine lv_goto (tgt := 154) C.1 C.2.1 dX2_onward_222 (by decide) ?_
                          exact ih_29 ((q + 1)) ⟨by omega, lp_bk hR2 (by omega) (by show (if _ then _ else _) = _; rw [if_neg (by omega)])⟩ (by omega) _ _ _ hS (lv_sub hl [0, 1, 2, 3, 4, 5] rfl)
                        · skip
                          refine lv_aload_n C.1 C.2.1 dX2_onward_191 rfl (lv_at hl 1 rfl) ?_
                          refine lv_iload C.1 C.2.1 dX2_onward_192 (lv_at hl 0 rfl) ?_
                          have hb_41 := hB 4 ((4 * q) + 2)
                          refine tl_ci (t_V (n := 1) (ci := 8) C hml hS (m2_to l X σ mo ad M hM hI (q) (by omega)) q1809 q1811 qs26 q53 q1812 (by decide +kernel) hm rfl rfl hl.1 rfl (Nat.le_of_ble_eq_true rfl) dX2_onward_194 ⟨Nat.le_of_ble_eq_true rfl, Nat.le_of_ble_eq_true rfl⟩ ⟨Nat.le_refl _, Nat.le_refl _⟩) hS (fun r_42 σ_44 H locs hP_43 hS => ?_)
                          obtain ⟨rfl, rfl⟩ := hP_43
                          refine lv_aload_n C.1 C.2.1 dX2_onward_197 rfl (lv_at hl 1 rfl) ?_
                          refine gf_X2_23_8 C hS hm rfl dX2_onward_198 ?_
                          refine ti_iadd C.1 C.2.1 dX2_onward_201 ?_
                          refine lv_iload C.1 C.2.1 dX2_onward_202 (lv_at hl 5 rfl) ?_
                          refine ti_icmp_le (tgt := 219) C.1 C.2.1 dX2_onward_204 (by decide) ⟨by omega, by omega⟩ ⟨by omega, by omega⟩ (fun hc_45 => ?_) (fun hc_45 => ?_)
                          · skip
                            refine ti_iinc (lv' := [(5, .int (iI ((q + 1)))), (0, .ref (mo)), (1, .int (iI (pa))), (2, .int (iI (ln))), (3, .int (iI (b))), (4, .int (iI (pl)))]) C.1 C.2.1 dX2_onward_219 hl (k := 0) rfl (by decide) rfl (fun ls hl => ?_)
                            refine lv_goto (tgt := 154) C.1 C.2.1 dX2_onward_222 (by decide) ?_
                            exact ih_29 ((q + 1)) ⟨by omega, lp_bk hR2 (by omega) (by show (if _ then _ else _) = _; rw [if_neg (by omega)])⟩ (by omega) _ _ _ hS (lv_sub hl [0, 1, 2, 3, 4, 5] rfl)
                          · skip
                            refine lv_aload_n C.1 C.2.1 dX2_onward_207 rfl (lv_at hl 1 rfl) ?_
                            refine lv_iload C.1 C.2.1 dX2_onward_208 (lv_at hl 0 rfl) ?_
                            have hb_46 := hB 4 ((4 * q) + 2)
                            refine tl_ci (t_V (n := 1) (ci := 8) C hml hS (m2_to l X σ mo ad M hM hI (q) (by omega)) q1809 q1811 qs26 q53 q1812 (by decide +kernel) hm rfl rfl hl.1 rfl (Nat.le_of_ble_eq_true rfl) dX2_onward_210 ⟨Nat.le_of_ble_eq_true rfl, Nat.le_of_ble_eq_true rfl⟩ ⟨Nat.le_refl _, Nat.le_refl _⟩) hS (fun r_47 σ_49 H locs hP_48 hS => ?_)
                            obtain ⟨rfl, rfl⟩ := hP_48
                            refine lv_aload_n C.1 C.2.1 dX2_onward_213 rfl (lv_at hl 1 rfl) ?_
                            refine gf_X2_23_8 C hS hm rfl dX2_onward_214 ?_
                            refine ti_iadd C.1 C.2.1 dX2_onward_217 ?_
                            exact r_i C hr hlk hS ⟨congrArg iI (by have hx : none = rF := lp_ex hR (by omega); have hy : rG = some _ := lp_out (mOwG_s M ln b pl) hR2 (by omega) (by show (if _ then _ else _) = _; rw [if_pos (by omega)]); unfold mOnward; rw [if_neg (by omega), ← erF, ← hx, ← erG, hy]), rfl⟩ dX2_onward_218
                exact loop_27 (((M.1 6 - (0) : Int)).toNat + 1) (0) ⟨by omega, by rw [erG]⟩ (by omega) _ _ _ hS (lv_sub hl [0, 1, 2, 3, 4, 5] rfl)
              · skip
                refine lv_aload_n C.1 C.2.1 dX2_onward_66 rfl (lv_at hl 1 rfl) ?_
                refine gf_X2_13_8 C hS hm rfl dX2_onward_67 ?_
                refine ti_const C.1 C.2.1 dX2_onward_70 ?_
                refine lv_iload C.1 C.2.1 dX2_onward_71 (lv_at hl 0 rfl) ?_
                refine ti_imul C.1 C.2.1 dX2_onward_73 ?_
                refine h_ialdZ C hS h1 (by omega) (by omega) (by omega) dX2_onward_74 ?_
                have hb_50 := hB 1 ((4 * d))
                refine lv_iload_n C.1 C.2.1 dX2_onward_75 rfl (lv_at hl 4 rfl) ?_
                refine ti_icmp_ne (tgt := 145) C.1 C.2.1 dX2_onward_76 (by decide) ⟨by omega, by omega⟩ ⟨by omega, by omega⟩ (fun hc_51 => ?_) (fun hc_51 => ?_)
                · skip
                  refine ti_iinc (lv' := [(5, .int (iI ((d + 1)))), (0, .ref (mo)), (1, .int (iI (pa))), (2, .int (iI (ln))), (3, .int (iI (b))), (4, .int (iI (pl)))]) C.1 C.2.1 dX2_onward_145 hl (k := 0) rfl (by decide) rfl (fun ls hl => ?_)
                  refine lv_goto (tgt := 57) C.1 C.2.1 dX2_onward_148 (by decide) ?_
                  exact ih_24 ((d + 1)) ⟨by omega, lp_bk hR (by omega) (by show (if _ then _ else _) = _; rw [if_neg (by omega)])⟩ (by omega) _ _ _ hS (lv_sub hl [0, 1, 2, 3, 4, 5] rfl)
                · skip
                  refine lv_aload_n C.1 C.2.1 dX2_onward_79 rfl (lv_at hl 1 rfl) ?_
                  refine gf_X2_13_8 C hS hm rfl dX2_onward_80 ?_
                  refine ti_const C.1 C.2.1 dX2_onward_83 ?_
                  refine lv_iload C.1 C.2.1 dX2_onward_84 (lv_at hl 0 rfl) ?_
                  refine ti_imul C.1 C.2.1 dX2_onward_86 ?_
                  refine ti_const C.1 C.2.1 dX2_onward_87 ?_
                  refine ti_iadd C.1 C.2.1 dX2_onward_88 ?_
                  refine h_ialdZ C hS h1 (by omega) (by omega) (by omega) dX2_onward_89 ?_
                  have hb_52 := hB 1 (((4 * d) + 3))
                  refine lv_aload_n C.1 C.2.1 dX2_onward_90 rfl (lv_at hl 1 rfl) ?_
                  refine lv_iload_n C.1 C.2.1 dX2_onward_91 rfl (lv_at hl 2 rfl) ?_
                  refine ti_const C.1 C.2.1 dX2_onward_92 ?_
                  have hb_53 := hWn ((4 * pa) + 2)
                  refine tl_ci (t_V (n := 2) (ci := 8) C hml hS (m2_want l X σ mo ad M hM hI (pa) (2) (by omega)) q1817 q1819 qs28 q53 q1820 (by decide +kernel) hm rfl rfl hl.1 rfl (Nat.le_of_ble_eq_true rfl) dX2_onward_93 ⟨Nat.le_of_ble_eq_true rfl, Nat.le_of_ble_eq_true rfl⟩ ⟨Nat.le_refl _, Nat.le_refl _⟩) hS (fun r_54 σ_56 H locs hP_55 hS => ?_)
                  obtain ⟨rfl, rfl⟩ := hP_55
                  refine ti_icmp_le (tgt := 145) C.1 C.2.1 dX2_onward_96 (by decide) ⟨by omega, by omega⟩ ⟨by omega, by omega⟩ (fun hc_57 => ?_) (fun hc_57 => ?_)
                  · skip
                    refine ti_iinc (lv' := [(5, .int (iI ((d + 1)))), (0, .ref (mo)), (1, .int (iI (pa))), (2, .int (iI (ln))), (3, .int (iI (b))), (4, .int (iI (pl)))]) C.1 C.2.1 dX2_onward_145 hl (k := 0) rfl (by decide) rfl (fun ls hl => ?_)
                    refine lv_goto (tgt := 57) C.1 C.2.1 dX2_onward_148 (by decide) ?_
                    exact ih_24 ((d + 1)) ⟨by omega, lp_bk hR (by omega) (by show (if _ then _ else _) = _; rw [if_neg (by omega)])⟩ (by omega) _ _ _ hS (lv_sub hl [0, 1, 2, 3, 4, 5] rfl)
                  · skip
                    refine lv_aload_n C.1 C.2.1 dX2_onward_99 rfl (lv_at hl 1 rfl) ?_
                    refine gf_X2_13_8 C hS hm rfl dX2_onward_100 ?_
                    refine ti_const C.1 C.2.1 dX2_onward_103 ?_
                    refine lv_iload C.1 C.2.1 dX2_onward_104 (lv_at hl 0 rfl) ?_
                    refine ti_imul C.1 C.2.1 dX2_onward_106 ?_
                    refine ti_const C.1 C.2.1 dX2_onward_107 ?_
                    refine ti_iadd C.1 C.2.1 dX2_onward_108 ?_
                    refine h_ialdZ C hS h1 (by omega) (by omega) (by omega) dX2_onward_109 ?_
                    have hb_58 := hB 1 (((4 * d) + 1))
                    refine lv_iload C.1 C.2.1 dX2_onward_110 (lv_at hl 5 rfl) ?_
                    refine lv_iload_n C.1 C.2.1 dX2_onward_112 rfl (lv_at hl 3 rfl) ?_
                    refine ti_iadd C.1 C.2.1 dX2_onward_113 ?_
                    refine ti_icmp_ge (tgt := 145) C.1 C.2.1 dX2_onward_114 (by decide) ⟨by omega, by omega⟩ ⟨by omega, by omega⟩ (fun hc_59 => ?_) (fun hc_59 => ?_)
                    · skip
                      refine ti_iinc (lv' := [(5, .int (iI ((d + 1)))), (0, .ref (mo)), (1, .int (iI (pa))), (2, .int (iI (ln))), (3, .int (iI (b))), (4, .int (iI (pl)))]) C.1 C.2.1 dX2_onward_145 hl (k := 0) rfl (by decide) rfl (fun ls hl => ?_)
                      refine lv_goto (tgt := 57) C.1 C.2.1 dX2_onward_148 (by decide) ?_
                      exact ih_24 ((d + 1)) ⟨by omega, lp_bk hR (by omega) (by show (if _ then _ else _) = _; rw [if_neg (by omega)])⟩ (by omega) _ _ _ hS (lv_sub hl [0, 1, 2, 3, 4, 5] rfl)
                    · skip
                      refine lv_aload_n C.1 C.2.1 dX2_onward_117 rfl (lv_at hl 1 rfl) ?_
                      refine gf_X2_13_8 C hS hm rfl dX2_onward_118 ?_
                      refine ti_const C.1 C.2.1 dX2_onward_121 ?_
                      refine lv_iload C.1 C.2.1 dX2_onward_122 (lv_at hl 0 rfl) ?_
                      refine ti_imul C.1 C.2.1 dX2_onward_124 ?_
                      refine ti_const C.1 C.2.1 dX2_onward_125 ?_
                      refine ti_iadd C.1 C.2.1 dX2_onward_126 ?_
                      refine h_ialdZ C hS h1 (by omega) (by omega) (by omega) dX2_onward_127 ?_
                      have hb_60 := hB 1 (((4 * d) + 2))
                      refine lv_iload C.1 C.2.1 dX2_onward_128 (lv_at hl 5 rfl) ?_
                      refine ti_icmp_le (tgt := 145) C.1 C.2.1 dX2_onward_130 (by decide) ⟨by omega, by omega⟩ ⟨by omega, by omega⟩ (fun hc_61 => ?_) (fun hc_61 => ?_)
                      · skip
                        refine ti_iinc (lv' := [(5, .int (iI ((d + 1)))), (0, .ref (mo)), (1, .int (iI (pa))), (2, .int (iI (ln))), (3, .int (iI (b))), (4, .int (iI (pl)))]) C.1 C.2.1 dX2_onward_145 hl (k := 0) rfl (by decide) rfl (fun ls hl => ?_)
                        refine lv_goto (tgt := 57) C.1 C.2.1 dX2_onward_148 (by decide) ?_
                        exact ih_24 ((d + 1)) ⟨by omega, lp_bk hR (by omega) (by show (if _ then _ else _) = _; rw [if_neg (by omega)])⟩ (by omega) _ _ _ hS (lv_sub hl [0, 1, 2, 3, 4, 5] rfl)
                      · skip
                        refine lv_aload_n C.1 C.2.1 dX2_onward_133 rfl (lv_at hl 1 rfl) ?_
                        refine gf_X2_13_8 C hS hm rfl dX2_onward_134 ?_
                        refine ti_const C.1 C.2.1 dX2_onward_137 ?_
                        refine lv_iload C.1 C.2.1 dX2_onward_138 (lv_at hl 0 rfl) ?_
                        refine ti_imul C.1 C.2.1 dX2_onward_140 ?_
                        refine ti_const C.1 C.2.1 dX2_onward_141 ?_
                        refine ti_iadd C.1 C.2.1 dX2_onward_142 ?_
                        refine h_ialdZ C hS h1 (by omega) (by omega) (by omega) dX2_onward_143 ?_
                        have hb_62 := hB 1 (((4 * d) + 2))
                        exact r_i C hr hlk hS ⟨congrArg iI (by have hx : rF = some _ := lp_out (mOwF_s M pa ln b pl) hR (by omega) (by show (if _ then _ else _) = _; rw [if_pos (by omega)]); unfold mOnward; rw [if_neg (by omega), ← erF, hx]), rfl⟩ dX2_onward_144
          exact loop_22 (((M.1 2 - (0) : Int)).toNat + 1) (0) ⟨by omega, by rw [erF]⟩ (by omega) _ _ _ hS (lv_sub hl [0, 1, 2, 3, 4, 5] rfl)
        · skip
          refine ti_sipush C.1 C.2.1 dX2_onward_50 (by decide) ?_
          exact r_i C hr hlk hS ⟨congrArg iI (by unfold mOnward; rw [if_pos (by omega)]), rfl⟩ dX2_onward_53

theorem mOnward_bd {M : mS} (hI : mI M) (p ln b pl : Int) : mOnward M p ln b pl = pl ∨ -20000 ≤ mOnward M p ln b pl ∧ mOnward M p ln b pl ≤ 20000 := by
  unfold mOnward
  split
  · right; omega
  · split
    · rename_i v hv
      right
      have key : ∀ (k : Nat) (d : Int) (a : Option Int), (∀ w, a = some w → -20000 ≤ w ∧ w ≤ 20000) → ∀ w, itr (mOwF M p ln b pl) k d a = some w → -20000 ≤ w ∧ w ≤ 20000 := by
        intro k
        induction k with
        | zero => intro d a ha w hw; exact ha w hw
        | succ k ih =>
          intro d a ha w hw
          refine ih (d + 1) _ ?_ w hw
          intro w' hw'
          cases a with
          | some x => exact ha w' hw'
          | none =>
            simp only [mOwF] at hw'
            split at hw'
            · cases hw'; have := hI.2.1 1 (4 * d + 2); omega
            · cases hw'
      exact key _ _ _ (fun _ h => by cases h) v hv
    · split
      · rename_i v hv
        right
        have key : ∀ (k : Nat) (d : Int) (a : Option Int), (∀ w, a = some w → -20000 ≤ w ∧ w ≤ 20000) → ∀ w, itr (mOwG M ln b pl) k d a = some w → -20000 ≤ w ∧ w ≤ 20000 := by
          intro k
          induction k with
          | zero => intro d a ha w hw; exact ha w hw
          | succ k ih =>
            intro d a ha w hw
            refine ih (d + 1) _ ?_ w hw
            intro w' hw'
            cases a with
            | some x => exact ha w' hw'
            | none =>
              simp only [mOwG] at hw'
              split at hw'
              · cases hw'; have := hI.2.1 4 (4 * d + 2); have := hI.1; omega
              · cases hw'
        exact key _ _ _ (fun _ h => by cases h) v hv
      · left; rfl
set_option maxHeartbeats 4000000 in
theorem m2_isPossible (l : Launch) (X : tl_X) (σ : tl_H) (mo : Nat) (ad : Nat → Nat) (M : mS) (hM : MD X σ mo ad M) (hI : mI M) (pa ln b pl : Int) (hr : 0 ≤ pa ∧ pa < 12 ∧ 0 ≤ b ∧ b < 10 ∧ -1000000 ≤ pl ∧ pl ≤ 1000000 ∧ -1000000 ≤ ln ∧ ln ≤ 1000000) : tl_Met l X yX2_isPossible cX2_isPossible 5 ((Option.some FieldType.boolean)) 3 (0) (0) [.ref (mo), .int (iI (pa)), .int (iI (ln)), .int (iI (b)), .int (iI (pl))] σ (tl_Qi X (fun r σ' => r = iI (tb (decide (pl < 3000 ∧ mOnward M pa ln b pl = pl))) ∧ σ = σ')) := by
  refine tl_start (by decide) (Nat.le_of_ble_eq_true rfl) (fun p e s m below meth c ls C hr hml hlk hnm hS hl => ?_)
  have hl : lv_has ls 5 [(0, .ref (mo)), (1, .int (iI (pa))), (2, .int (iI (ln))), (3, .int (iI (b))), (4, .int (iI (pl)))] := hl
  obtain ⟨hm, h0, h1, h2, h3, h4, h5, hd⟩ := id hM
  obtain ⟨hN, hB, hPt, hJ, hA, hWn⟩ := id hI
  refine lv_iload C.1 C.2.1 dX2_isPossible_0 (lv_at hl 4 rfl) ?_
  refine ti_sipush C.1 C.2.1 dX2_isPossible_2 (by decide) ?_
  refine ti_icmp_ge (tgt := 26) C.1 C.2.1 dX2_isPossible_5 (by decide) ⟨by omega, by omega⟩ ⟨by decide, by decide⟩ (fun hc_1 => ?_) (fun hc_1 => ?_)
  · skip
    refine ti_const C.1 C.2.1 dX2_isPossible_26 ?_
    exact r_z (z := 0) C hr hlk hS (by first | exact tb01 _ | omega | decide) ⟨congrArg iI (tb_f (by omega)).symm, rfl⟩ dX2_isPossible_27
  · skip
    refine lv_aload_n C.1 C.2.1 dX2_isPossible_8 rfl (lv_at hl 0 rfl) ?_
    refine lv_iload_n C.1 C.2.1 dX2_isPossible_9 rfl (lv_at hl 1 rfl) ?_
    refine lv_iload_n C.1 C.2.1 dX2_isPossible_10 rfl (lv_at hl 2 rfl) ?_
    refine lv_iload_n C.1 C.2.1 dX2_isPossible_11 rfl (lv_at hl 3 rfl) ?_
    refine lv_iload C.1 C.2.1 dX2_isPossible_12 (lv_at hl 4 rfl) ?_
    have how_2 := mOnward_bd hI (pa) (ln) (b) (pl)
    refine tl_ci (t_V (n := 4) (ci := 8) C hml hS (m2_onward l X σ mo ad M hM hI (pa) (ln) (b) (pl) (by omega)) q1871 q1873 qs34 q53 q1874 (by decide +kernel) hm rfl rfl hl.1 rfl (Nat.le_of_ble_eq_true rfl) dX2_isPossible_14 ⟨Nat.le_of_ble_eq_true rfl, Nat.le_of_ble_eq_true rfl⟩ ⟨Nat.le_refl _, Nat.le_refl _⟩) hS (fun r_3 σ_5 H locs hP_4 hS => ?_)
    obtain ⟨rfl, rfl⟩ := hP_4
    refine lv_iload C.1 C.2.1 dX2_isPossible_17 (lv_at hl 4 rfl) ?_
    refine ti_icmp_ne (tgt := 26) C.1 C.2.1 dX2_isPossible_19 (by decide) ⟨by omega, by omega⟩ ⟨by omega, by omega⟩ (fun hc_6 => ?_) (fun hc_6 => ?_)
    · skip
      refine ti_const C.1 C.2.1 dX2_isPossible_26 ?_
      exact r_z (z := 0) C hr hlk hS (by first | exact tb01 _ | omega | decide) ⟨congrArg iI (tb_f (by omega)).symm, rfl⟩ dX2_isPossible_27
    · skip
      refine ti_const C.1 C.2.1 dX2_isPossible_22 ?_
      refine lv_goto (tgt := 27) C.1 C.2.1 dX2_isPossible_23 (by decide) ?_
      exact r_z (z := 1) C hr hlk hS (by first | exact tb01 _ | omega | decide) ⟨congrArg iI (tb_t (by omega)).symm, rfl⟩ dX2_isPossible_27

set_option maxHeartbeats 4000000 in
theorem m2_earliestOn (l : Launch) (X : tl_X) (σ : tl_H) (mo : Nat) (ad : Nat → Nat) (M : mS) (hM : MD X σ mo ad M) (hI : mI M) (pa b : Int) (hr : 0 ≤ pa ∧ pa < 12 ∧ 0 ≤ b ∧ b < 10) : tl_Met l X yX2_earliestOn cX2_earliestOn 5 ((Option.some FieldType.int)) 3 (0) (0) [.ref (mo), .int (iI (pa)), .int (iI (b))] σ (tl_Qi X (fun r σ' => r = iI (mEarliest M pa b) ∧ σ = σ')) := by
  refine tl_start (by decide) (Nat.le_of_ble_eq_true rfl) (fun p e s m below meth c ls C hr hml hlk hnm hS hl => ?_)
  have hl : lv_has ls 5 [(0, .ref (mo)), (1, .int (iI (pa))), (2, .int (iI (b)))] := hl
  obtain ⟨hm, h0, h1, h2, h3, h4, h5, hd⟩ := id hM
  obtain ⟨hN, hB, hPt, hJ, hA, hWn⟩ := id hI
  refine ti_const C.1 C.2.1 dX2_earliestOn_0 ?_
  refine lv_istore_n (lv' := [(3, .int (iI (0))), (0, .ref (mo)), (1, .int (iI (pa))), (2, .int (iI (b)))]) C.1 C.2.1 dX2_earliestOn_1 rfl hl (by decide) rfl (fun ls hl => ?_)
  have loop_1 : ∀ (n_2 : Nat) (pl : Int), (0 ≤ pl ∧ pl ≤ 20000) ∧ mErl M pa b n_2 pl = mEarliest M pa b → 20000 - pl < (n_2 : Int) → ∀ (H : Heap) (locs : List Loc) (ls : Array Slot), tl_S X s σ H locs → lv_has ls 5 [(3, .int (iI (pl))), (0, .ref (mo)), (1, .int (iI (pa))), (2, .int (iI (b)))] → W p l e (tl_rm 3 (0) (0)) s m ([.ref (mo), .int (iI (pa)), .int (iI (b))] : List Value).toArray below meth c H locs (0) (0) (MQ below (tl_Qi X (fun r σ' => r = iI (mEarliest M pa b) ∧ σ = σ')) ([.ref (mo), .int (iI (pa)), .int (iI (b))] : List Value).toArray s (0) (0) (tl_A X)) (F0 m 2 ls []) := by
    intro n_2
    induction n_2 with
    | zero => intro pl hinv hms; omega
    | succ n_2 ih_3 =>
      intro pl hinv hms_4  H locs ls hS hl
      obtain ⟨hv, hR⟩ := hinv
      refine lv_iload_n C.1 C.2.1 dX2_earliestOn_2 rfl (lv_at hl 0 rfl) ?_
      refine ti_sipush C.1 C.2.1 dX2_earliestOn_3 (by decide) ?_
      refine ti_icmp_ge (tgt := 38) C.1 C.2.1 dX2_earliestOn_6 (by decide) ⟨by omega, by omega⟩ ⟨by decide, by decide⟩ (fun hc_5 => ?_) (fun hc_5 => ?_)
      · skip
        refine ti_const C.1 C.2.1 dX2_earliestOn_38 ?_
        exact r_i C hr hlk hS ⟨congrArg iI (by rw [← hR]; show _ = (if _ then _ else _); rw [if_pos (by omega)]), rfl⟩ dX2_earliestOn_39
      · skip
        refine lv_aload_n C.1 C.2.1 dX2_earliestOn_9 rfl (lv_at hl 1 rfl) ?_
        refine lv_iload_n C.1 C.2.1 dX2_earliestOn_10 rfl (lv_at hl 2 rfl) ?_
        refine lv_aload_n C.1 C.2.1 dX2_earliestOn_11 rfl (lv_at hl 1 rfl) ?_
        refine lv_iload_n C.1 C.2.1 dX2_earliestOn_12 rfl (lv_at hl 2 rfl) ?_
        refine ti_const C.1 C.2.1 dX2_earliestOn_13 ?_
        have hb_6 := hWn ((4 * pa) + 0)
        refine tl_ci (t_V (n := 2) (ci := 8) C hml hS (m2_want l X σ mo ad M hM hI (pa) (0) (by omega)) q1817 q1819 qs28 q53 q1820 (by decide +kernel) hm rfl rfl hl.1 rfl (Nat.le_of_ble_eq_true rfl) dX2_earliestOn_14 ⟨Nat.le_of_ble_eq_true rfl, Nat.le_of_ble_eq_true rfl⟩ ⟨Nat.le_refl _, Nat.le_refl _⟩) hS (fun r_7 σ_9 H locs hP_8 hS => ?_)
        obtain ⟨rfl, rfl⟩ := hP_8
        refine lv_iload_n C.1 C.2.1 dX2_earliestOn_17 rfl (lv_at hl 3 rfl) ?_
        refine lv_iload_n C.1 C.2.1 dX2_earliestOn_18 rfl (lv_at hl 0 rfl) ?_
        have how_10 := mOnward_bd hI (pa) ((M.2 2 ((4 * pa) + 0))) (b) (pl)
        have hg_11 := mOnward_ge (M := M) (p := pa) (ln := (M.2 2 ((4 * pa) + 0))) (b := b) (pl := pl) (by omega)
        refine tl_ci (t_V (n := 4) (ci := 8) C hml hS (m2_onward l X σ mo ad M hM hI (pa) ((M.2 2 ((4 * pa) + 0))) (b) (pl) (by omega)) q1871 q1873 qs34 q53 q1874 (by decide +kernel) hm rfl rfl hl.1 rfl (Nat.le_of_ble_eq_true rfl) dX2_earliestOn_19 ⟨Nat.le_of_ble_eq_true rfl, Nat.le_of_ble_eq_true rfl⟩ ⟨Nat.le_refl _, Nat.le_refl _⟩) hS (fun r_12 σ_14 H locs hP_13 hS => ?_)
        obtain ⟨rfl, rfl⟩ := hP_13
        refine lv_istore (lv' := [(4, .int (iI ((mOnward M (pa) ((M.2 2 ((4 * pa) + 0))) (b) (pl))))), (3, .int (iI (pl))), (0, .ref (mo)), (1, .int (iI (pa))), (2, .int (iI (b)))]) C.1 C.2.1 dX2_earliestOn_22 hl (by decide) rfl (fun ls hl => ?_)
        refine lv_iload C.1 C.2.1 dX2_earliestOn_24 (lv_at hl 0 rfl) ?_
        refine lv_iload_n C.1 C.2.1 dX2_earliestOn_26 rfl (lv_at hl 1 rfl) ?_
        refine ti_icmp_ne (tgt := 32) C.1 C.2.1 dX2_earliestOn_27 (by decide) ⟨by omega, by omega⟩ ⟨by omega, by omega⟩ (fun hc_15 => ?_) (fun hc_15 => ?_)
        · skip
          refine lv_iload C.1 C.2.1 dX2_earliestOn_32 (lv_at hl 0 rfl) ?_
          refine lv_istore_n (lv' := [(3, .int (iI ((mOnward M (pa) ((M.2 2 ((4 * pa) + 0))) (b) (pl))))), (4, .int (iI ((mOnward M (pa) ((M.2 2 ((4 * pa) + 0))) (b) (pl))))), (0, .ref (mo)), (1, .int (iI (pa))), (2, .int (iI (b)))]) C.1 C.2.1 dX2_earliestOn_34 rfl hl (by decide) rfl (fun ls hl => ?_)
          refine lv_goto (tgt := 2) C.1 C.2.1 dX2_earliestOn_35 (by decide) ?_
          exact ih_3 ((mOnward M (pa) ((M.2 2 ((4 * pa) + 0))) (b) (pl))) ⟨by omega, by rw [← hR]; show _ = (if _ then _ else _); rw [if_neg (by omega), if_neg (by omega)]⟩ (by omega) _ _ _ hS (lv_sub hl [0, 2, 3, 4] rfl)
        · skip
          refine lv_iload_n C.1 C.2.1 dX2_earliestOn_30 rfl (lv_at hl 1 rfl) ?_
          exact r_i C hr hlk hS ⟨congrArg iI (by rw [← hR]; show _ = (if _ then _ else _); rw [if_neg (by omega), if_pos (by omega)]), rfl⟩ dX2_earliestOn_31
  exact loop_1 (20001) (0) ⟨by omega, rfl⟩ (by omega) _ _ _ hS (lv_sub hl [0, 1, 2, 3] rfl)

set_option maxHeartbeats 4000000 in
theorem m2_roomFrom (l : Launch) (X : tl_X) (σ : tl_H) (mo : Nat) (ad : Nat → Nat) (M : mS) (hM : MD X σ mo ad M) (hI : mI M) (b pl : Int) (hr : 0 ≤ b ∧ b < 10 ∧ -1000000 ≤ pl ∧ pl ≤ 1000000) : tl_Met l X yX2_roomFrom cX2_roomFrom 5 ((Option.some FieldType.int)) 2 (0) (0) [.ref (mo), .int (iI (b)), .int (iI (pl))] σ (tl_Qi X (fun r σ' => r = iI (mRoomFrom M b pl) ∧ σ = σ')) := by
  refine tl_start (by decide) (Nat.le_of_ble_eq_true rfl) (fun p e s m below meth c ls C hr hml hlk hnm hS hl => ?_)
  have hl : lv_has ls 5 [(0, .ref (mo)), (1, .int (iI (b))), (2, .int (iI (pl)))] := hl
  obtain ⟨hm, h0, h1, h2, h3, h4, h5, hd⟩ := id hM
  obtain ⟨hN, hB, hPt, hJ, hA, hWn⟩ := id hI
  refine ti_const C.1 C.2.1 dX2_roomFrom_0 ?_
  refine lv_istore_n (lv' := [(3, .int (iI (0))), (0, .ref (mo)), (1, .int (iI (b))), (2, .int (iI (pl)))]) C.1 C.2.1 dX2_roomFrom_1 rfl hl (by decide) rfl (fun ls hl => ?_)
  refine ti_const C.1 C.2.1 dX2_roomFrom_2 ?_
  refine lv_istore (lv' := [(4, .int (iI (0))), (3, .int (iI (0))), (0, .ref (mo)), (1, .int (iI (b))), (2, .int (iI (pl)))]) C.1 C.2.1 dX2_roomFrom_3 hl (by decide) rfl (fun ls hl => ?_)
  have loop_1 : ∀ (n_2 : Nat) (q : Int) (fr : Int), (0 ≤ q ∧ q ≤ M.1 6 ∧ -20000 ≤ fr ∧ fr ≤ 20000) ∧ lp (mRfF M b pl) q (M.1 6) fr = mRoomFrom M b pl → M.1 6 - q < (n_2 : Int) → ∀ (H : Heap) (locs : List Loc) (ls : Array Slot), tl_S X s σ H locs → lv_has ls 5 [(4, .int (iI (q))), (3, .int (iI (fr))), (0, .ref (mo)), (1, .int (iI (b))), (2, .int (iI (pl)))] → W p l e (tl_rm 2 (0) (0)) s m ([.ref (mo), .int (iI (b)), .int (iI (pl))] : List Value).toArray below meth c H locs (0) (0) (MQ below (tl_Qi X (fun r σ' => r = iI (mRoomFrom M b pl) ∧ σ = σ')) ([.ref (mo), .int (iI (b)), .int (iI (pl))] : List Value).toArray s (0) (0) (tl_A X)) (F0 m 5 ls []) := by
    intro n_2
    induction n_2 with
    | zero => intro q fr hinv hms; omega
    | succ n_2 ih_3 =>
      intro q fr hinv hms_4  H locs ls hS hl
      obtain ⟨hv, hR⟩ := hinv
      refine lv_iload C.1 C.2.1 dX2_roomFrom_5 (lv_at hl 0 rfl) ?_
      refine lv_aload_n C.1 C.2.1 dX2_roomFrom_7 rfl (lv_at hl 2 rfl) ?_
      refine gf_X2_63_8 C hS hm rfl dX2_roomFrom_8 ?_
      refine ti_icmp_ge (tgt := 56) C.1 C.2.1 dX2_roomFrom_11 (by decide) ⟨by omega, by omega⟩ ⟨by omega, by omega⟩ (fun hc_5 => ?_) (fun hc_5 => ?_)
      · skip
        refine lv_iload_n C.1 C.2.1 dX2_roomFrom_56 rfl (lv_at hl 1 rfl) ?_
        exact r_i C hr hlk hS ⟨congrArg iI (lp_ex hR (by omega)), rfl⟩ dX2_roomFrom_57
      · skip
        refine lv_aload_n C.1 C.2.1 dX2_roomFrom_14 rfl (lv_at hl 2 rfl) ?_
        refine lv_iload C.1 C.2.1 dX2_roomFrom_15 (lv_at hl 0 rfl) ?_
        refine lv_iload_n C.1 C.2.1 dX2_roomFrom_17 rfl (lv_at hl 3 rfl) ?_
        refine tl_ci (t_V (n := 2) (ci := 8) C hml hS (m2_isOn l X σ mo ad M hM hI (q) (b) (by omega)) q1801 q1803 qs24 q53 q1804 (by decide +kernel) hm rfl rfl hl.1 rfl (Nat.le_of_ble_eq_true rfl) dX2_roomFrom_18 ⟨Nat.le_of_ble_eq_true rfl, Nat.le_of_ble_eq_true rfl⟩ ⟨Nat.le_refl _, Nat.le_refl _⟩) hS (fun r_6 σ_8 H locs hP_7 hS => ?_)
        obtain ⟨rfl, rfl⟩ := hP_7
        refine ti_tb_eq (tgt := 50) C.1 C.2.1 dX2_roomFrom_21 (by decide) (fun hc_9 => ?_) (fun hc_9 => ?_)
        · skip
          refine ti_iinc (lv' := [(4, .int (iI ((q + 1)))), (3, .int (iI (fr))), (0, .ref (mo)), (1, .int (iI (b))), (2, .int (iI (pl)))]) C.1 C.2.1 dX2_roomFrom_50 hl (k := 0) rfl (by decide) rfl (fun ls hl => ?_)
          refine lv_goto (tgt := 5) C.1 C.2.1 dX2_roomFrom_53 (by decide) ?_
          exact ih_3 ((q + 1)) (fr) ⟨by omega, lp_bk hR (by omega) (by unfold mRfF; (repeat' split) <;> omega)⟩ (by omega) _ _ _ hS (lv_sub hl [0, 1, 2, 3, 4] rfl)
        · skip
          refine lv_aload_n C.1 C.2.1 dX2_roomFrom_24 rfl (lv_at hl 2 rfl) ?_
          refine lv_iload C.1 C.2.1 dX2_roomFrom_25 (lv_at hl 0 rfl) ?_
          have hb_10 := hB 4 ((4 * q) + 2)
          refine tl_ci (t_V (n := 1) (ci := 8) C hml hS (m2_to l X σ mo ad M hM hI (q) (by omega)) q1809 q1811 qs26 q53 q1812 (by decide +kernel) hm rfl rfl hl.1 rfl (Nat.le_of_ble_eq_true rfl) dX2_roomFrom_27 ⟨Nat.le_of_ble_eq_true rfl, Nat.le_of_ble_eq_true rfl⟩ ⟨Nat.le_refl _, Nat.le_refl _⟩) hS (fun r_11 σ_13 H locs hP_12 hS => ?_)
          obtain ⟨rfl, rfl⟩ := hP_12
          refine lv_iload_n C.1 C.2.1 dX2_roomFrom_30 rfl (lv_at hl 4 rfl) ?_
          refine ti_icmp_gt (tgt := 50) C.1 C.2.1 dX2_roomFrom_31 (by decide) ⟨by omega, by omega⟩ ⟨by omega, by omega⟩ (fun hc_14 => ?_) (fun hc_14 => ?_)
          · skip
            refine ti_iinc (lv' := [(4, .int (iI ((q + 1)))), (3, .int (iI (fr))), (0, .ref (mo)), (1, .int (iI (b))), (2, .int (iI (pl)))]) C.1 C.2.1 dX2_roomFrom_50 hl (k := 0) rfl (by decide) rfl (fun ls hl => ?_)
            refine lv_goto (tgt := 5) C.1 C.2.1 dX2_roomFrom_53 (by decide) ?_
            exact ih_3 ((q + 1)) (fr) ⟨by omega, lp_bk hR (by omega) (by unfold mRfF; (repeat' split) <;> omega)⟩ (by omega) _ _ _ hS (lv_sub hl [0, 1, 2, 3, 4] rfl)
          · skip
            refine lv_iload_n C.1 C.2.1 dX2_roomFrom_34 rfl (lv_at hl 1 rfl) ?_
            refine lv_aload_n C.1 C.2.1 dX2_roomFrom_35 rfl (lv_at hl 2 rfl) ?_
            refine lv_iload C.1 C.2.1 dX2_roomFrom_36 (lv_at hl 0 rfl) ?_
            have hb_15 := hB 4 ((4 * q) + 2)
            refine tl_ci (t_V (n := 1) (ci := 8) C hml hS (m2_to l X σ mo ad M hM hI (q) (by omega)) q1809 q1811 qs26 q53 q1812 (by decide +kernel) hm rfl rfl hl.1 rfl (Nat.le_of_ble_eq_true rfl) dX2_roomFrom_38 ⟨Nat.le_of_ble_eq_true rfl, Nat.le_of_ble_eq_true rfl⟩ ⟨Nat.le_refl _, Nat.le_refl _⟩) hS (fun r_16 σ_18 H locs hP_17 hS => ?_)
            obtain ⟨rfl, rfl⟩ := hP_17
            refine lv_aload_n C.1 C.2.1 dX2_roomFrom_41 rfl (lv_at hl 2 rfl) ?_
            refine gf_X2_23_8 C hS hm rfl dX2_roomFrom_42 ?_
            refine ti_iadd C.1 C.2.1 dX2_roomFrom_45 ?_
            refine ti_max C hml hl.1 q1841 ⟨by omega, by omega⟩ ⟨by omega, by omega⟩ dX2_roomFrom_46 (by show 1 ≤ 2; decide) (by show 40 ≤ 40 * 2; decide) (Nat.le_of_ble_eq_true rfl) (Nat.le_refl _) (Nat.le_refl _) ?_
            refine lv_istore_n (lv' := [(3, .int (iI ((max (fr) (((M.2 4 ((4 * q) + 2)) + M.1 4)))))), (4, .int (iI (q))), (0, .ref (mo)), (1, .int (iI (b))), (2, .int (iI (pl)))]) C.1 C.2.1 dX2_roomFrom_49 rfl hl (by decide) rfl (fun ls hl => ?_)
            refine ti_iinc (lv' := [(4, .int (iI ((q + 1)))), (3, .int (iI ((max (fr) (((M.2 4 ((4 * q) + 2)) + M.1 4)))))), (0, .ref (mo)), (1, .int (iI (b))), (2, .int (iI (pl)))]) C.1 C.2.1 dX2_roomFrom_50 hl (k := 1) rfl (by decide) rfl (fun ls hl => ?_)
            refine lv_goto (tgt := 5) C.1 C.2.1 dX2_roomFrom_53 (by decide) ?_
            exact ih_3 ((q + 1)) ((max (fr) (((M.2 4 ((4 * q) + 2)) + M.1 4)))) ⟨by omega, lp_bk hR (by omega) (by unfold mRfF; (repeat' split) <;> omega)⟩ (by omega) _ _ _ hS (lv_sub hl [0, 1, 2, 3, 4] rfl)
  exact loop_1 (((M.1 6 - (0) : Int)).toNat + 1) (0) (0) ⟨by omega, rfl⟩ (by omega) _ _ _ hS (lv_sub hl [0, 1, 2, 3, 4] rfl)

set_option maxHeartbeats 4000000 in
theorem m2_roomTo (l : Launch) (X : tl_X) (σ : tl_H) (mo : Nat) (ad : Nat → Nat) (M : mS) (hM : MD X σ mo ad M) (hI : mI M) (b pl : Int) (hr : 0 ≤ b ∧ b < 10 ∧ -1000000 ≤ pl ∧ pl ≤ 1000000) : tl_Met l X yX2_roomTo cX2_roomTo 5 ((Option.some FieldType.int)) 2 (0) (0) [.ref (mo), .int (iI (b)), .int (iI (pl))] σ (tl_Qi X (fun r σ' => r = iI (mRoomTo M b pl) ∧ σ = σ')) := by
  refine tl_start (by decide) (Nat.le_of_ble_eq_true rfl) (fun p e s m below meth c ls C hr hml hlk hnm hS hl => ?_)
  have hl : lv_has ls 5 [(0, .ref (mo)), (1, .int (iI (b))), (2, .int (iI (pl)))] := hl
  obtain ⟨hm, h0, h1, h2, h3, h4, h5, hd⟩ := id hM
  obtain ⟨hN, hB, hPt, hJ, hA, hWn⟩ := id hI
  refine lv_aload_n C.1 C.2.1 dX2_roomTo_0 rfl (lv_at hl 0 rfl) ?_
  refine lv_iload_n C.1 C.2.1 dX2_roomTo_1 rfl (lv_at hl 1 rfl) ?_
  have hb_1 := hB 0 (3 * b)
  refine tl_ci (t_V (n := 1) (ci := 8) C hml hS (m2_length l X σ mo ad M hM hI (b) (by omega)) q1797 q1799 qs23 q53 q1800 (by decide +kernel) hm rfl rfl hl.1 rfl (Nat.le_of_ble_eq_true rfl) dX2_roomTo_2 ⟨Nat.le_of_ble_eq_true rfl, Nat.le_of_ble_eq_true rfl⟩ ⟨Nat.le_refl _, Nat.le_refl _⟩) hS (fun r_2 σ_4 H locs hP_3 hS => ?_)
  obtain ⟨rfl, rfl⟩ := hP_3
  refine lv_istore_n (lv' := [(3, .int (iI ((M.2 0 (3 * b))))), (0, .ref (mo)), (1, .int (iI (b))), (2, .int (iI (pl)))]) C.1 C.2.1 dX2_roomTo_5 rfl hl (by decide) rfl (fun ls hl => ?_)
  refine ti_const C.1 C.2.1 dX2_roomTo_6 ?_
  refine lv_istore (lv' := [(4, .int (iI (0))), (3, .int (iI ((M.2 0 (3 * b))))), (0, .ref (mo)), (1, .int (iI (b))), (2, .int (iI (pl)))]) C.1 C.2.1 dX2_roomTo_7 hl (by decide) rfl (fun ls hl => ?_)
  have loop_5 : ∀ (n_6 : Nat) (q : Int) (t1 : Int), (0 ≤ q ∧ q ≤ M.1 6 ∧ -20000 ≤ t1 ∧ t1 ≤ 20000) ∧ lp (mRtF M b pl) q (M.1 6) t1 = mRoomTo M b pl → M.1 6 - q < (n_6 : Int) → ∀ (H : Heap) (locs : List Loc) (ls : Array Slot), tl_S X s σ H locs → lv_has ls 5 [(4, .int (iI (q))), (3, .int (iI (t1))), (0, .ref (mo)), (1, .int (iI (b))), (2, .int (iI (pl)))] → W p l e (tl_rm 2 (0) (0)) s m ([.ref (mo), .int (iI (b)), .int (iI (pl))] : List Value).toArray below meth c H locs (0) (0) (MQ below (tl_Qi X (fun r σ' => r = iI (mRoomTo M b pl) ∧ σ = σ')) ([.ref (mo), .int (iI (b)), .int (iI (pl))] : List Value).toArray s (0) (0) (tl_A X)) (F0 m 9 ls []) := by
    intro n_6
    induction n_6 with
    | zero => intro q t1 hinv hms; omega
    | succ n_6 ih_7 =>
      intro q t1 hinv hms_8  H locs ls hS hl
      obtain ⟨hv, hR⟩ := hinv
      refine lv_iload C.1 C.2.1 dX2_roomTo_9 (lv_at hl 0 rfl) ?_
      refine lv_aload_n C.1 C.2.1 dX2_roomTo_11 rfl (lv_at hl 2 rfl) ?_
      refine gf_X2_63_8 C hS hm rfl dX2_roomTo_12 ?_
      refine ti_icmp_ge (tgt := 60) C.1 C.2.1 dX2_roomTo_15 (by decide) ⟨by omega, by omega⟩ ⟨by omega, by omega⟩ (fun hc_9 => ?_) (fun hc_9 => ?_)
      · skip
        refine lv_iload_n C.1 C.2.1 dX2_roomTo_60 rfl (lv_at hl 1 rfl) ?_
        exact r_i C hr hlk hS ⟨congrArg iI (lp_ex hR (by omega)), rfl⟩ dX2_roomTo_61
      · skip
        refine lv_aload_n C.1 C.2.1 dX2_roomTo_18 rfl (lv_at hl 2 rfl) ?_
        refine lv_iload C.1 C.2.1 dX2_roomTo_19 (lv_at hl 0 rfl) ?_
        refine lv_iload_n C.1 C.2.1 dX2_roomTo_21 rfl (lv_at hl 3 rfl) ?_
        refine tl_ci (t_V (n := 2) (ci := 8) C hml hS (m2_isOn l X σ mo ad M hM hI (q) (b) (by omega)) q1801 q1803 qs24 q53 q1804 (by decide +kernel) hm rfl rfl hl.1 rfl (Nat.le_of_ble_eq_true rfl) dX2_roomTo_22 ⟨Nat.le_of_ble_eq_true rfl, Nat.le_of_ble_eq_true rfl⟩ ⟨Nat.le_refl _, Nat.le_refl _⟩) hS (fun r_10 σ_12 H locs hP_11 hS => ?_)
        obtain ⟨rfl, rfl⟩ := hP_11
        refine ti_tb_eq (tgt := 54) C.1 C.2.1 dX2_roomTo_25 (by decide) (fun hc_13 => ?_) (fun hc_13 => ?_)
        · skip
          refine ti_iinc (lv' := [(4, .int (iI ((q + 1)))), (3, .int (iI (t1))), (0, .ref (mo)), (1, .int (iI (b))), (2, .int (iI (pl)))]) C.1 C.2.1 dX2_roomTo_54 hl (k := 0) rfl (by decide) rfl (fun ls hl => ?_)
          refine lv_goto (tgt := 9) C.1 C.2.1 dX2_roomTo_57 (by decide) ?_
          exact ih_7 ((q + 1)) (t1) ⟨by omega, lp_bk hR (by omega) (by unfold mRtF; (repeat' split) <;> omega)⟩ (by omega) _ _ _ hS (lv_sub hl [0, 1, 2, 3, 4] rfl)
        · skip
          refine lv_aload_n C.1 C.2.1 dX2_roomTo_28 rfl (lv_at hl 2 rfl) ?_
          refine lv_iload C.1 C.2.1 dX2_roomTo_29 (lv_at hl 0 rfl) ?_
          have hb_14 := hB 4 ((4 * q) + 1)
          refine tl_ci (t_V (n := 1) (ci := 8) C hml hS (m2_from l X σ mo ad M hM hI (q) (by omega)) q1805 q1807 qs25 q53 q1808 (by decide +kernel) hm rfl rfl hl.1 rfl (Nat.le_of_ble_eq_true rfl) dX2_roomTo_31 ⟨Nat.le_of_ble_eq_true rfl, Nat.le_of_ble_eq_true rfl⟩ ⟨Nat.le_refl _, Nat.le_refl _⟩) hS (fun r_15 σ_17 H locs hP_16 hS => ?_)
          obtain ⟨rfl, rfl⟩ := hP_16
          refine lv_iload_n C.1 C.2.1 dX2_roomTo_34 rfl (lv_at hl 4 rfl) ?_
          refine ti_icmp_le (tgt := 54) C.1 C.2.1 dX2_roomTo_35 (by decide) ⟨by omega, by omega⟩ ⟨by omega, by omega⟩ (fun hc_18 => ?_) (fun hc_18 => ?_)
          · skip
            refine ti_iinc (lv' := [(4, .int (iI ((q + 1)))), (3, .int (iI (t1))), (0, .ref (mo)), (1, .int (iI (b))), (2, .int (iI (pl)))]) C.1 C.2.1 dX2_roomTo_54 hl (k := 0) rfl (by decide) rfl (fun ls hl => ?_)
            refine lv_goto (tgt := 9) C.1 C.2.1 dX2_roomTo_57 (by decide) ?_
            exact ih_7 ((q + 1)) (t1) ⟨by omega, lp_bk hR (by omega) (by unfold mRtF; (repeat' split) <;> omega)⟩ (by omega) _ _ _ hS (lv_sub hl [0, 1, 2, 3, 4] rfl)
          · skip
            refine lv_iload_n C.1 C.2.1 dX2_roomTo_38 rfl (lv_at hl 1 rfl) ?_
            refine lv_aload_n C.1 C.2.1 dX2_roomTo_39 rfl (lv_at hl 2 rfl) ?_
            refine lv_iload C.1 C.2.1 dX2_roomTo_40 (lv_at hl 0 rfl) ?_
            have hb_19 := hB 4 ((4 * q) + 1)
            refine tl_ci (t_V (n := 1) (ci := 8) C hml hS (m2_from l X σ mo ad M hM hI (q) (by omega)) q1805 q1807 qs25 q53 q1808 (by decide +kernel) hm rfl rfl hl.1 rfl (Nat.le_of_ble_eq_true rfl) dX2_roomTo_42 ⟨Nat.le_of_ble_eq_true rfl, Nat.le_of_ble_eq_true rfl⟩ ⟨Nat.le_refl _, Nat.le_refl _⟩) hS (fun r_20 σ_22 H locs hP_21 hS => ?_)
            obtain ⟨rfl, rfl⟩ := hP_21
            refine lv_aload_n C.1 C.2.1 dX2_roomTo_45 rfl (lv_at hl 2 rfl) ?_
            refine gf_X2_23_8 C hS hm rfl dX2_roomTo_46 ?_
            refine ti_isub C.1 C.2.1 dX2_roomTo_49 ?_
            refine ti_min C hml hl.1 q1854 ⟨by omega, by omega⟩ ⟨by omega, by omega⟩ dX2_roomTo_50 (by show 1 ≤ 2; decide) (by show 40 ≤ 40 * 2; decide) (Nat.le_of_ble_eq_true rfl) (Nat.le_refl _) (Nat.le_refl _) ?_
            refine lv_istore_n (lv' := [(3, .int (iI ((min (t1) (((M.2 4 ((4 * q) + 1)) - M.1 4)))))), (4, .int (iI (q))), (0, .ref (mo)), (1, .int (iI (b))), (2, .int (iI (pl)))]) C.1 C.2.1 dX2_roomTo_53 rfl hl (by decide) rfl (fun ls hl => ?_)
            refine ti_iinc (lv' := [(4, .int (iI ((q + 1)))), (3, .int (iI ((min (t1) (((M.2 4 ((4 * q) + 1)) - M.1 4)))))), (0, .ref (mo)), (1, .int (iI (b))), (2, .int (iI (pl)))]) C.1 C.2.1 dX2_roomTo_54 hl (k := 1) rfl (by decide) rfl (fun ls hl => ?_)
            refine lv_goto (tgt := 9) C.1 C.2.1 dX2_roomTo_57 (by decide) ?_
            exact ih_7 ((q + 1)) ((min (t1) (((M.2 4 ((4 * q) + 1)) - M.1 4)))) ⟨by omega, lp_bk hR (by omega) (by unfold mRtF; (repeat' split) <;> omega)⟩ (by omega) _ _ _ hS (lv_sub hl [0, 1, 2, 3, 4] rfl)
  exact loop_5 (((M.1 6 - (0) : Int)).toNat + 1) (0) ((M.2 0 (3 * b))) ⟨by omega, rfl⟩ (by omega) _ _ _ hS (lv_sub hl [0, 1, 2, 3, 4] rfl)

set_option maxHeartbeats 4000000 in
theorem m2_piecesOf (l : Launch) (X : tl_X) (σ : tl_H) (mo : Nat) (ad : Nat → Nat) (M : mS) (hM : MD X σ mo ad M) (hI : mI M) (b : Int) (hr : 0 ≤ b ∧ b < 10) : tl_Met l X yX2_piecesOf cX2_piecesOf 4 ((Option.some FieldType.int)) 2 (0) (0) [.ref (mo), .int (iI (b))] σ (tl_Qi X (fun r σ' => r = iI (mPieces M b) ∧ σ = σ')) := by
  refine tl_start (by decide) (Nat.le_of_ble_eq_true rfl) (fun p e s m below meth c ls C hr hml hlk hnm hS hl => ?_)
  have hl : lv_has ls 4 [(0, .ref (mo)), (1, .int (iI (b)))] := hl
  obtain ⟨hm, h0, h1, h2, h3, h4, h5, hd⟩ := id hM
  obtain ⟨hN, hB, hPt, hJ, hA, hWn⟩ := id hI
  refine ti_const C.1 C.2.1 dX2_piecesOf_0 ?_
  refine lv_istore_n (lv' := [(2, .int (iI (0))), (0, .ref (mo)), (1, .int (iI (b)))]) C.1 C.2.1 dX2_piecesOf_1 rfl hl (by decide) rfl (fun ls hl => ?_)
  refine ti_const C.1 C.2.1 dX2_piecesOf_2 ?_
  refine lv_istore_n (lv' := [(3, .int (iI (0))), (2, .int (iI (0))), (0, .ref (mo)), (1, .int (iI (b)))]) C.1 C.2.1 dX2_piecesOf_3 rfl hl (by decide) rfl (fun ls hl => ?_)
  have loop_1 : ∀ (n_2 : Nat) (q : Int) (k1 : Int), (0 ≤ q ∧ q ≤ M.1 6 ∧ 0 ≤ k1 ∧ k1 ≤ q) ∧ lp (mPoF M b) q (M.1 6) k1 = mPieces M b → M.1 6 - q < (n_2 : Int) → ∀ (H : Heap) (locs : List Loc) (ls : Array Slot), tl_S X s σ H locs → lv_has ls 4 [(3, .int (iI (q))), (2, .int (iI (k1))), (0, .ref (mo)), (1, .int (iI (b)))] → W p l e (tl_rm 2 (0) (0)) s m ([.ref (mo), .int (iI (b))] : List Value).toArray below meth c H locs (0) (0) (MQ below (tl_Qi X (fun r σ' => r = iI (mPieces M b) ∧ σ = σ')) ([.ref (mo), .int (iI (b))] : List Value).toArray s (0) (0) (tl_A X)) (F0 m 4 ls []) := by
    intro n_2
    induction n_2 with
    | zero => intro q k1 hinv hms; omega
    | succ n_2 ih_3 =>
      intro q k1 hinv hms_4  H locs ls hS hl
      obtain ⟨hv, hR⟩ := hinv
      refine lv_iload_n C.1 C.2.1 dX2_piecesOf_4 rfl (lv_at hl 0 rfl) ?_
      refine lv_aload_n C.1 C.2.1 dX2_piecesOf_5 rfl (lv_at hl 2 rfl) ?_
      refine gf_X2_63_8 C hS hm rfl dX2_piecesOf_6 ?_
      refine ti_icmp_ge (tgt := 35) C.1 C.2.1 dX2_piecesOf_9 (by decide) ⟨by omega, by omega⟩ ⟨by omega, by omega⟩ (fun hc_5 => ?_) (fun hc_5 => ?_)
      · skip
        refine lv_iload_n C.1 C.2.1 dX2_piecesOf_35 rfl (lv_at hl 1 rfl) ?_
        exact r_i C hr hlk hS ⟨congrArg iI (lp_ex hR (by omega)), rfl⟩ dX2_piecesOf_36
      · skip
        refine lv_iload_n C.1 C.2.1 dX2_piecesOf_12 rfl (lv_at hl 1 rfl) ?_
        refine lv_aload_n C.1 C.2.1 dX2_piecesOf_13 rfl (lv_at hl 2 rfl) ?_
        refine lv_iload_n C.1 C.2.1 dX2_piecesOf_14 rfl (lv_at hl 0 rfl) ?_
        refine lv_iload_n C.1 C.2.1 dX2_piecesOf_15 rfl (lv_at hl 3 rfl) ?_
        refine tl_ci (t_V (n := 2) (ci := 8) C hml hS (m2_isOn l X σ mo ad M hM hI (q) (b) (by omega)) q1801 q1803 qs24 q53 q1804 (by decide +kernel) hm rfl rfl hl.1 rfl (Nat.le_of_ble_eq_true rfl) dX2_piecesOf_16 ⟨Nat.le_of_ble_eq_true rfl, Nat.le_of_ble_eq_true rfl⟩ ⟨Nat.le_refl _, Nat.le_refl _⟩) hS (fun r_6 σ_8 H locs hP_7 hS => ?_)
        obtain ⟨rfl, rfl⟩ := hP_7
        refine ti_tb_eq (tgt := 26) C.1 C.2.1 dX2_piecesOf_19 (by decide) (fun hc_9 => ?_) (fun hc_9 => ?_)
        · skip
          refine ti_const C.1 C.2.1 dX2_piecesOf_26 ?_
          refine ti_iadd C.1 C.2.1 dX2_piecesOf_27 ?_
          refine lv_istore_n (lv' := [(2, .int (iI ((k1 + 0)))), (3, .int (iI (q))), (0, .ref (mo)), (1, .int (iI (b)))]) C.1 C.2.1 dX2_piecesOf_28 rfl hl (by decide) rfl (fun ls hl => ?_)
          refine ti_iinc (lv' := [(3, .int (iI ((q + 1)))), (2, .int (iI ((k1 + 0)))), (0, .ref (mo)), (1, .int (iI (b)))]) C.1 C.2.1 dX2_piecesOf_29 hl (k := 1) rfl (by decide) rfl (fun ls hl => ?_)
          refine lv_goto (tgt := 4) C.1 C.2.1 dX2_piecesOf_32 (by decide) ?_
          exact ih_3 ((q + 1)) ((k1 + 0)) ⟨by omega, lp_bk hR (by omega) (by unfold mPoF; (repeat' split) <;> omega)⟩ (by omega) _ _ _ hS (lv_sub hl [0, 1, 2, 3] rfl)
        · skip
          refine ti_const C.1 C.2.1 dX2_piecesOf_22 ?_
          refine lv_goto (tgt := 27) C.1 C.2.1 dX2_piecesOf_23 (by decide) ?_
          refine ti_iadd C.1 C.2.1 dX2_piecesOf_27 ?_
          refine lv_istore_n (lv' := [(2, .int (iI ((k1 + 1)))), (3, .int (iI (q))), (0, .ref (mo)), (1, .int (iI (b)))]) C.1 C.2.1 dX2_piecesOf_28 rfl hl (by decide) rfl (fun ls hl => ?_)
          refine ti_iinc (lv' := [(3, .int (iI ((q + 1)))), (2, .int (iI ((k1 + 1)))), (0, .ref (mo)), (1, .int (iI (b)))]) C.1 C.2.1 dX2_piecesOf_29 hl (k := 1) rfl (by decide) rfl (fun ls hl => ?_)
          refine lv_goto (tgt := 4) C.1 C.2.1 dX2_piecesOf_32 (by decide) ?_
          exact ih_3 ((q + 1)) ((k1 + 1)) ⟨by omega, lp_bk hR (by omega) (by unfold mPoF; (repeat' split) <;> omega)⟩ (by omega) _ _ _ hS (lv_sub hl [0, 1, 2, 3] rfl)
  exact loop_1 (((M.1 6 - (0) : Int)).toNat + 1) (0) (0) ⟨by omega, rfl⟩ (by omega) _ _ _ hS (lv_sub hl [0, 1, 2, 3] rfl)

set_option maxHeartbeats 4000000 in
theorem m2_pieceFrom (l : Launch) (X : tl_X) (σ : tl_H) (mo : Nat) (ad : Nat → Nat) (M : mS) (hM : MD X σ mo ad M) (hI : mI M) (b pl : Int) (hr : 0 ≤ b ∧ b < 10 ∧ -1000000 ≤ pl ∧ pl ≤ 1000000) : tl_Met l X yX2_pieceFrom cX2_pieceFrom 5 ((Option.some FieldType.int)) 2 (0) (0) [.ref (mo), .int (iI (b)), .int (iI (pl))] σ (tl_Qi X (fun r σ' => r = iI (mPieceFrom M b pl) ∧ σ = σ')) := by
  refine tl_start (by decide) (Nat.le_of_ble_eq_true rfl) (fun p e s m below meth c ls C hr hml hlk hnm hS hl => ?_)
  have hl : lv_has ls 5 [(0, .ref (mo)), (1, .int (iI (b))), (2, .int (iI (pl)))] := hl
  obtain ⟨hm, h0, h1, h2, h3, h4, h5, hd⟩ := id hM
  obtain ⟨hN, hB, hPt, hJ, hA, hWn⟩ := id hI
  refine ti_const C.1 C.2.1 dX2_pieceFrom_0 ?_
  refine lv_istore_n (lv' := [(3, .int (iI ((-1)))), (0, .ref (mo)), (1, .int (iI (b))), (2, .int (iI (pl)))]) C.1 C.2.1 dX2_pieceFrom_1 rfl hl (by decide) rfl (fun ls hl => ?_)
  refine ti_const C.1 C.2.1 dX2_pieceFrom_2 ?_
  refine lv_istore (lv' := [(4, .int (iI (0))), (3, .int (iI ((-1)))), (0, .ref (mo)), (1, .int (iI (b))), (2, .int (iI (pl)))]) C.1 C.2.1 dX2_pieceFrom_3 hl (by decide) rfl (fun ls hl => ?_)
  have loop_1 : ∀ (n_2 : Nat) (q : Int) (bs : Int), (0 ≤ q ∧ q ≤ M.1 6 ∧ (-1 ≤ bs ∧ bs < q)) ∧ lp (mPfF M b pl) q (M.1 6) bs = mPieceFrom M b pl → M.1 6 - q < (n_2 : Int) → ∀ (H : Heap) (locs : List Loc) (ls : Array Slot), tl_S X s σ H locs → lv_has ls 5 [(4, .int (iI (q))), (3, .int (iI (bs))), (0, .ref (mo)), (1, .int (iI (b))), (2, .int (iI (pl)))] → W p l e (tl_rm 2 (0) (0)) s m ([.ref (mo), .int (iI (b)), .int (iI (pl))] : List Value).toArray below meth c H locs (0) (0) (MQ below (tl_Qi X (fun r σ' => r = iI (mPieceFrom M b pl) ∧ σ = σ')) ([.ref (mo), .int (iI (b)), .int (iI (pl))] : List Value).toArray s (0) (0) (tl_A X)) (F0 m 5 ls []) := by
    intro n_2
    induction n_2 with
    | zero => intro q bs hinv hms; omega
    | succ n_2 ih_3 =>
      intro q bs hinv hms_4  H locs ls hS hl
      obtain ⟨hv, hR⟩ := hinv
      refine lv_iload C.1 C.2.1 dX2_pieceFrom_5 (lv_at hl 0 rfl) ?_
      refine lv_aload_n C.1 C.2.1 dX2_pieceFrom_7 rfl (lv_at hl 2 rfl) ?_
      refine gf_X2_63_8 C hS hm rfl dX2_pieceFrom_8 ?_
      refine ti_icmp_ge (tgt := 62) C.1 C.2.1 dX2_pieceFrom_11 (by decide) ⟨by omega, by omega⟩ ⟨by omega, by omega⟩ (fun hc_5 => ?_) (fun hc_5 => ?_)
      · skip
        refine lv_iload_n C.1 C.2.1 dX2_pieceFrom_62 rfl (lv_at hl 1 rfl) ?_
        exact r_i C hr hlk hS ⟨congrArg iI (lp_ex hR (by omega)), rfl⟩ dX2_pieceFrom_63
      · skip
        refine lv_aload_n C.1 C.2.1 dX2_pieceFrom_14 rfl (lv_at hl 2 rfl) ?_
        refine lv_iload C.1 C.2.1 dX2_pieceFrom_15 (lv_at hl 0 rfl) ?_
        refine lv_iload_n C.1 C.2.1 dX2_pieceFrom_17 rfl (lv_at hl 3 rfl) ?_
        refine tl_ci (t_V (n := 2) (ci := 8) C hml hS (m2_isOn l X σ mo ad M hM hI (q) (b) (by omega)) q1801 q1803 qs24 q53 q1804 (by decide +kernel) hm rfl rfl hl.1 rfl (Nat.le_of_ble_eq_true rfl) dX2_pieceFrom_18 ⟨Nat.le_of_ble_eq_true rfl, Nat.le_of_ble_eq_true rfl⟩ ⟨Nat.le_refl _, Nat.le_refl _⟩) hS (fun r_6 σ_8 H locs hP_7 hS => ?_)
        obtain ⟨rfl, rfl⟩ := hP_7
        refine ti_tb_eq (tgt := 56) C.1 C.2.1 dX2_pieceFrom_21 (by decide) (fun hc_9 => ?_) (fun hc_9 => ?_)
        · skip
          refine ti_iinc (lv' := [(4, .int (iI ((q + 1)))), (3, .int (iI (bs))), (0, .ref (mo)), (1, .int (iI (b))), (2, .int (iI (pl)))]) C.1 C.2.1 dX2_pieceFrom_56 hl (k := 0) rfl (by decide) rfl (fun ls hl => ?_)
          refine lv_goto (tgt := 5) C.1 C.2.1 dX2_pieceFrom_59 (by decide) ?_
          exact ih_3 ((q + 1)) (bs) ⟨by omega, lp_bk hR (by omega) (by unfold mPfF; (repeat' split) <;> omega)⟩ (by omega) _ _ _ hS (lv_sub hl [0, 1, 2, 3, 4] rfl)
        · skip
          refine lv_aload_n C.1 C.2.1 dX2_pieceFrom_24 rfl (lv_at hl 2 rfl) ?_
          refine lv_iload C.1 C.2.1 dX2_pieceFrom_25 (lv_at hl 0 rfl) ?_
          have hb_10 := hB 4 ((4 * q) + 1)
          refine tl_ci (t_V (n := 1) (ci := 8) C hml hS (m2_from l X σ mo ad M hM hI (q) (by omega)) q1805 q1807 qs25 q53 q1808 (by decide +kernel) hm rfl rfl hl.1 rfl (Nat.le_of_ble_eq_true rfl) dX2_pieceFrom_27 ⟨Nat.le_of_ble_eq_true rfl, Nat.le_of_ble_eq_true rfl⟩ ⟨Nat.le_refl _, Nat.le_refl _⟩) hS (fun r_11 σ_13 H locs hP_12 hS => ?_)
          obtain ⟨rfl, rfl⟩ := hP_12
          refine lv_iload_n C.1 C.2.1 dX2_pieceFrom_30 rfl (lv_at hl 4 rfl) ?_
          refine ti_icmp_lt (tgt := 56) C.1 C.2.1 dX2_pieceFrom_31 (by decide) ⟨by omega, by omega⟩ ⟨by omega, by omega⟩ (fun hc_14 => ?_) (fun hc_14 => ?_)
          · skip
            refine ti_iinc (lv' := [(4, .int (iI ((q + 1)))), (3, .int (iI (bs))), (0, .ref (mo)), (1, .int (iI (b))), (2, .int (iI (pl)))]) C.1 C.2.1 dX2_pieceFrom_56 hl (k := 0) rfl (by decide) rfl (fun ls hl => ?_)
            refine lv_goto (tgt := 5) C.1 C.2.1 dX2_pieceFrom_59 (by decide) ?_
            exact ih_3 ((q + 1)) (bs) ⟨by omega, lp_bk hR (by omega) (by unfold mPfF; (repeat' split) <;> omega)⟩ (by omega) _ _ _ hS (lv_sub hl [0, 1, 2, 3, 4] rfl)
          · skip
            refine lv_iload_n C.1 C.2.1 dX2_pieceFrom_34 rfl (lv_at hl 1 rfl) ?_
            refine ti_const C.1 C.2.1 dX2_pieceFrom_35 ?_
            refine ti_icmp_eq (tgt := 53) C.1 C.2.1 dX2_pieceFrom_36 (by decide) ⟨by omega, by omega⟩ ⟨by decide, by decide⟩ (fun hc_15 => ?_) (fun hc_15 => ?_)
            · skip
              refine lv_iload C.1 C.2.1 dX2_pieceFrom_53 (lv_at hl 0 rfl) ?_
              refine lv_istore_n (lv' := [(3, .int (iI (q))), (4, .int (iI (q))), (0, .ref (mo)), (1, .int (iI (b))), (2, .int (iI (pl)))]) C.1 C.2.1 dX2_pieceFrom_55 rfl hl (by decide) rfl (fun ls hl => ?_)
              refine ti_iinc (lv' := [(4, .int (iI ((q + 1)))), (3, .int (iI (q))), (0, .ref (mo)), (1, .int (iI (b))), (2, .int (iI (pl)))]) C.1 C.2.1 dX2_pieceFrom_56 hl (k := 1) rfl (by decide) rfl (fun ls hl => ?_)
              refine lv_goto (tgt := 5) C.1 C.2.1 dX2_pieceFrom_59 (by decide) ?_
              exact ih_3 ((q + 1)) (q) ⟨by omega, lp_bk hR (by omega) (by unfold mPfF; (repeat' split) <;> omega)⟩ (by omega) _ _ _ hS (lv_sub hl [0, 1, 2, 3, 4] rfl)
            · skip
              refine lv_aload_n C.1 C.2.1 dX2_pieceFrom_39 rfl (lv_at hl 2 rfl) ?_
              refine lv_iload C.1 C.2.1 dX2_pieceFrom_40 (lv_at hl 0 rfl) ?_
              have hb_16 := hB 4 ((4 * q) + 1)
              refine tl_ci (t_V (n := 1) (ci := 8) C hml hS (m2_from l X σ mo ad M hM hI (q) (by omega)) q1805 q1807 qs25 q53 q1808 (by decide +kernel) hm rfl rfl hl.1 rfl (Nat.le_of_ble_eq_true rfl) dX2_pieceFrom_42 ⟨Nat.le_of_ble_eq_true rfl, Nat.le_of_ble_eq_true rfl⟩ ⟨Nat.le_refl _, Nat.le_refl _⟩) hS (fun r_17 σ_19 H locs hP_18 hS => ?_)
              obtain ⟨rfl, rfl⟩ := hP_18
              refine lv_aload_n C.1 C.2.1 dX2_pieceFrom_45 rfl (lv_at hl 2 rfl) ?_
              refine lv_iload_n C.1 C.2.1 dX2_pieceFrom_46 rfl (lv_at hl 1 rfl) ?_
              have hb_20 := hB 4 ((4 * bs) + 1)
              refine tl_ci (t_V (n := 1) (ci := 8) C hml hS (m2_from l X σ mo ad M hM hI (bs) (by omega)) q1805 q1807 qs25 q53 q1808 (by decide +kernel) hm rfl rfl hl.1 rfl (Nat.le_of_ble_eq_true rfl) dX2_pieceFrom_47 ⟨Nat.le_of_ble_eq_true rfl, Nat.le_of_ble_eq_true rfl⟩ ⟨Nat.le_refl _, Nat.le_refl _⟩) hS (fun r_21 σ_23 H locs hP_22 hS => ?_)
              obtain ⟨rfl, rfl⟩ := hP_22
              refine ti_icmp_ge (tgt := 56) C.1 C.2.1 dX2_pieceFrom_50 (by decide) ⟨by omega, by omega⟩ ⟨by omega, by omega⟩ (fun hc_24 => ?_) (fun hc_24 => ?_)
              · skip
                refine ti_iinc (lv' := [(4, .int (iI ((q + 1)))), (3, .int (iI (bs))), (0, .ref (mo)), (1, .int (iI (b))), (2, .int (iI (pl)))]) C.1 C.2.1 dX2_pieceFrom_56 hl (k := 0) rfl (by decide) rfl (fun ls hl => ?_)
                refine lv_goto (tgt := 5) C.1 C.2.1 dX2_pieceFrom_59 (by decide) ?_
                exact ih_3 ((q + 1)) (bs) ⟨by omega, lp_bk hR (by omega) (by unfold mPfF; (repeat' split) <;> omega)⟩ (by omega) _ _ _ hS (lv_sub hl [0, 1, 2, 3, 4] rfl)
              · skip
                refine lv_iload C.1 C.2.1 dX2_pieceFrom_53 (lv_at hl 0 rfl) ?_
                refine lv_istore_n (lv' := [(3, .int (iI (q))), (4, .int (iI (q))), (0, .ref (mo)), (1, .int (iI (b))), (2, .int (iI (pl)))]) C.1 C.2.1 dX2_pieceFrom_55 rfl hl (by decide) rfl (fun ls hl => ?_)
                refine ti_iinc (lv' := [(4, .int (iI ((q + 1)))), (3, .int (iI (q))), (0, .ref (mo)), (1, .int (iI (b))), (2, .int (iI (pl)))]) C.1 C.2.1 dX2_pieceFrom_56 hl (k := 1) rfl (by decide) rfl (fun ls hl => ?_)
                refine lv_goto (tgt := 5) C.1 C.2.1 dX2_pieceFrom_59 (by decide) ?_
                exact ih_3 ((q + 1)) (q) ⟨by omega, lp_bk hR (by omega) (by unfold mPfF; (repeat' split) <;> omega)⟩ (by omega) _ _ _ hS (lv_sub hl [0, 1, 2, 3, 4] rfl)
  exact loop_1 (((M.1 6 - (0) : Int)).toNat + 1) (0) ((-1)) ⟨by omega, rfl⟩ (by omega) _ _ _ hS (lv_sub hl [0, 1, 2, 3, 4] rfl)

set_option maxHeartbeats 4000000 in
theorem m2_isAhead (l : Launch) (X : tl_X) (σ : tl_H) (mo : Nat) (ad : Nat → Nat) (M : mS) (hM : MD X σ mo ad M) (hI : mI M) (pa pb : Int) (hr : 0 ≤ pa ∧ pa < 12 ∧ 0 ≤ pb ∧ pb < 12) : tl_Met l X yX2_isAhead cX2_isAhead 3 ((Option.some FieldType.boolean)) 2 (0) (0) [.ref (mo), .int (iI (pa)), .int (iI (pb))] σ (tl_Qi X (fun r σ' => r = iI (tb (decide (M.2 2 (4 * pb + 0) < M.2 2 (4 * pa + 0) ∨ M.2 2 (4 * pa + 0) = M.2 2 (4 * pb + 0) ∧ M.2 2 (4 * pa + 2) < M.2 2 (4 * pb + 2)))) ∧ σ = σ')) := by
  refine tl_start (by decide) (Nat.le_of_ble_eq_true rfl) (fun p e s m below meth c ls C hr hml hlk hnm hS hl => ?_)
  have hl : lv_has ls 3 [(0, .ref (mo)), (1, .int (iI (pa))), (2, .int (iI (pb)))] := hl
  obtain ⟨hm, h0, h1, h2, h3, h4, h5, hd⟩ := id hM
  obtain ⟨hN, hB, hPt, hJ, hA, hWn⟩ := id hI
  refine lv_aload_n C.1 C.2.1 dX2_isAhead_0 rfl (lv_at hl 0 rfl) ?_
  refine lv_iload_n C.1 C.2.1 dX2_isAhead_1 rfl (lv_at hl 1 rfl) ?_
  refine ti_const C.1 C.2.1 dX2_isAhead_2 ?_
  have hb_1 := hWn ((4 * pa) + 0)
  refine tl_ci (t_V (n := 2) (ci := 8) C hml hS (m2_want l X σ mo ad M hM hI (pa) (0) (by omega)) q1817 q1819 qs28 q53 q1820 (by decide +kernel) hm rfl rfl hl.1 rfl (Nat.le_of_ble_eq_true rfl) dX2_isAhead_3 ⟨Nat.le_of_ble_eq_true rfl, Nat.le_of_ble_eq_true rfl⟩ ⟨Nat.le_refl _, Nat.le_refl _⟩) hS (fun r_2 σ_4 H locs hP_3 hS => ?_)
  obtain ⟨rfl, rfl⟩ := hP_3
  refine lv_aload_n C.1 C.2.1 dX2_isAhead_6 rfl (lv_at hl 0 rfl) ?_
  refine lv_iload_n C.1 C.2.1 dX2_isAhead_7 rfl (lv_at hl 2 rfl) ?_
  refine ti_const C.1 C.2.1 dX2_isAhead_8 ?_
  have hb_5 := hWn ((4 * pb) + 0)
  refine tl_ci (t_V (n := 2) (ci := 8) C hml hS (m2_want l X σ mo ad M hM hI (pb) (0) (by omega)) q1817 q1819 qs28 q53 q1820 (by decide +kernel) hm rfl rfl hl.1 rfl (Nat.le_of_ble_eq_true rfl) dX2_isAhead_9 ⟨Nat.le_of_ble_eq_true rfl, Nat.le_of_ble_eq_true rfl⟩ ⟨Nat.le_refl _, Nat.le_refl _⟩) hS (fun r_6 σ_8 H locs hP_7 hS => ?_)
  obtain ⟨rfl, rfl⟩ := hP_7
  refine ti_icmp_eq (tgt := 36) C.1 C.2.1 dX2_isAhead_12 (by decide) ⟨by omega, by omega⟩ ⟨by omega, by omega⟩ (fun hc_9 => ?_) (fun hc_9 => ?_)
  · skip
    refine lv_aload_n C.1 C.2.1 dX2_isAhead_36 rfl (lv_at hl 0 rfl) ?_
    refine lv_iload_n C.1 C.2.1 dX2_isAhead_37 rfl (lv_at hl 1 rfl) ?_
    refine ti_const C.1 C.2.1 dX2_isAhead_38 ?_
    have hb_10 := hWn ((4 * pa) + 2)
    refine tl_ci (t_V (n := 2) (ci := 8) C hml hS (m2_want l X σ mo ad M hM hI (pa) (2) (by omega)) q1817 q1819 qs28 q53 q1820 (by decide +kernel) hm rfl rfl hl.1 rfl (Nat.le_of_ble_eq_true rfl) dX2_isAhead_39 ⟨Nat.le_of_ble_eq_true rfl, Nat.le_of_ble_eq_true rfl⟩ ⟨Nat.le_refl _, Nat.le_refl _⟩) hS (fun r_11 σ_13 H locs hP_12 hS => ?_)
    obtain ⟨rfl, rfl⟩ := hP_12
    refine lv_aload_n C.1 C.2.1 dX2_isAhead_42 rfl (lv_at hl 0 rfl) ?_
    refine lv_iload_n C.1 C.2.1 dX2_isAhead_43 rfl (lv_at hl 2 rfl) ?_
    refine ti_const C.1 C.2.1 dX2_isAhead_44 ?_
    have hb_14 := hWn ((4 * pb) + 2)
    refine tl_ci (t_V (n := 2) (ci := 8) C hml hS (m2_want l X σ mo ad M hM hI (pb) (2) (by omega)) q1817 q1819 qs28 q53 q1820 (by decide +kernel) hm rfl rfl hl.1 rfl (Nat.le_of_ble_eq_true rfl) dX2_isAhead_45 ⟨Nat.le_of_ble_eq_true rfl, Nat.le_of_ble_eq_true rfl⟩ ⟨Nat.le_refl _, Nat.le_refl _⟩) hS (fun r_15 σ_17 H locs hP_16 hS => ?_)
    obtain ⟨rfl, rfl⟩ := hP_16
    refine ti_icmp_ge (tgt := 55) C.1 C.2.1 dX2_isAhead_48 (by decide) ⟨by omega, by omega⟩ ⟨by omega, by omega⟩ (fun hc_18 => ?_) (fun hc_18 => ?_)
    · skip
      refine ti_const C.1 C.2.1 dX2_isAhead_55 ?_
      exact r_z (z := 0) C hr hlk hS (by first | exact tb01 _ | omega | decide) ⟨congrArg iI (tb_f (by omega)).symm, rfl⟩ dX2_isAhead_56
    · skip
      refine ti_const C.1 C.2.1 dX2_isAhead_51 ?_
      refine lv_goto (tgt := 56) C.1 C.2.1 dX2_isAhead_52 (by decide) ?_
      exact r_z (z := 1) C hr hlk hS (by first | exact tb01 _ | omega | decide) ⟨congrArg iI (tb_t (by omega)).symm, rfl⟩ dX2_isAhead_56
  · skip
    refine lv_aload_n C.1 C.2.1 dX2_isAhead_15 rfl (lv_at hl 0 rfl) ?_
    refine lv_iload_n C.1 C.2.1 dX2_isAhead_16 rfl (lv_at hl 1 rfl) ?_
    refine ti_const C.1 C.2.1 dX2_isAhead_17 ?_
    have hb_19 := hWn ((4 * pa) + 0)
    refine tl_ci (t_V (n := 2) (ci := 8) C hml hS (m2_want l X σ mo ad M hM hI (pa) (0) (by omega)) q1817 q1819 qs28 q53 q1820 (by decide +kernel) hm rfl rfl hl.1 rfl (Nat.le_of_ble_eq_true rfl) dX2_isAhead_18 ⟨Nat.le_of_ble_eq_true rfl, Nat.le_of_ble_eq_true rfl⟩ ⟨Nat.le_refl _, Nat.le_refl _⟩) hS (fun r_20 σ_22 H locs hP_21 hS => ?_)
    obtain ⟨rfl, rfl⟩ := hP_21
    refine lv_aload_n C.1 C.2.1 dX2_isAhead_21 rfl (lv_at hl 0 rfl) ?_
    refine lv_iload_n C.1 C.2.1 dX2_isAhead_22 rfl (lv_at hl 2 rfl) ?_
    refine ti_const C.1 C.2.1 dX2_isAhead_23 ?_
    have hb_23 := hWn ((4 * pb) + 0)
    refine tl_ci (t_V (n := 2) (ci := 8) C hml hS (m2_want l X σ mo ad M hM hI (pb) (0) (by omega)) q1817 q1819 qs28 q53 q1820 (by decide +kernel) hm rfl rfl hl.1 rfl (Nat.le_of_ble_eq_true rfl) dX2_isAhead_24 ⟨Nat.le_of_ble_eq_true rfl, Nat.le_of_ble_eq_true rfl⟩ ⟨Nat.le_refl _, Nat.le_refl _⟩) hS (fun r_24 σ_26 H locs hP_25 hS => ?_)
    obtain ⟨rfl, rfl⟩ := hP_25
    refine ti_icmp_le (tgt := 34) C.1 C.2.1 dX2_isAhead_27 (by decide) ⟨by omega, by omega⟩ ⟨by omega, by omega⟩ (fun hc_27 => ?_) (fun hc_27 => ?_)
    · skip
      refine ti_const C.1 C.2.1 dX2_isAhead_34 ?_
      exact r_z (z := 0) C hr hlk hS (by first | exact tb01 _ | omega | decide) ⟨congrArg iI (tb_f (by omega)).symm, rfl⟩ dX2_isAhead_35
    · skip
      refine ti_const C.1 C.2.1 dX2_isAhead_30 ?_
      refine lv_goto (tgt := 35) C.1 C.2.1 dX2_isAhead_31 (by decide) ?_
      exact r_z (z := 1) C hr hlk hS (by first | exact tb01 _ | omega | decide) ⟨congrArg iI (tb_t (by omega)).symm, rfl⟩ dX2_isAhead_35

theorem gf_X2_33_8 {p : Program} {l : Launch} {e : Env} {R : Room} {s : State} {m : MethodId} {args : Array Value} {below : List Frame} {meth : Method} {c : Code} {H : Heap} {locs : List Loc} {cells slots : Nat} {Q : State → Prop} {cc : ByteArray} {pc : Nat} {ls : Array Slot} {rest : List Value} {X : tl_X} {σ : tl_H} {a : Nat} {fs : List Value} {v : Value} (C : tl_C X p s m args c cc RX2) (hS : tl_S X s σ H locs) (he : σ a = some (oO 8 fs)) (hv : fs[12]? = some v) (hdg : decode cc pc = .ok (.getfield 33, 3)) (kk : W p l e R s m args below meth c H locs cells slots Q (F0 m (pc + 3) ls (v :: rest))) : W p l e R s m args below meth c H locs cells slots Q (F0 m pc ls (.ref a :: rest)) :=
  h_get (ref := "TimberListModel") C hS in_X2 rfl 12 (by decide) q1739 (fun _ h => h) he hv hdg kk
set_option maxHeartbeats 4000000 in
theorem m2_told (l : Launch) (X : tl_X) (σ : tl_H) (mo : Nat) (ad : Nat → Nat) (M : mS) (hM : MD X σ mo ad M) (hI : mI M) (q x : Int) (hr : 0 ≤ q ∧ q < 216 ∧ 0 ≤ x ∧ x < 4) : tl_Met l X yX2_told cX2_told 3 ((Option.some FieldType.int)) 2 (0) (0) [.ref (mo), .int (iI (q)), .int (iI (x))] σ (tl_Qi X (fun r σ' => r = iI (mTold M q x) ∧ σ = σ')) := by
  refine tl_start (by decide) (Nat.le_of_ble_eq_true rfl) (fun p e s m below meth c ls C hr hml hlk hnm hS hl => ?_)
  have hl : lv_has ls 3 [(0, .ref (mo)), (1, .int (iI (q))), (2, .int (iI (x)))] := hl
  obtain ⟨hm, h0, h1, h2, h3, h4, h5, hd⟩ := id hM
  obtain ⟨hN, hB, hPt, hJ, hA, hWn⟩ := id hI
  refine lv_iload_n C.1 C.2.1 dX2_told_0 rfl (lv_at hl 2 rfl) ?_
  refine ti_if_ne (tgt := 12) C.1 C.2.1 dX2_told_1 (by decide) ⟨by omega, by omega⟩ (fun hc_1 => ?_) (fun hc_1 => ?_)
  · skip
    refine lv_iload_n C.1 C.2.1 dX2_told_12 rfl (lv_at hl 2 rfl) ?_
    refine ti_const C.1 C.2.1 dX2_told_13 ?_
    refine ti_icmp_ge (tgt := 30) C.1 C.2.1 dX2_told_14 (by decide) ⟨by omega, by omega⟩ ⟨by decide, by decide⟩ (fun hc_2 => ?_) (fun hc_2 => ?_)
    · skip
      refine lv_aload_n C.1 C.2.1 dX2_told_30 rfl (lv_at hl 0 rfl) ?_
      refine gf_X2_33_8 C hS hm rfl dX2_told_31 ?_
      refine lv_iload_n C.1 C.2.1 dX2_told_34 rfl (lv_at hl 1 rfl) ?_
      refine h_zaldZ C hS h5 (by omega) (by omega) (by omega) dX2_told_35 ?_
      have hb_3 := hB 5 (q)
      refine ti_if_eq (tgt := 43) C.1 C.2.1 dX2_told_36 (by decide) ⟨by omega, by omega⟩ (fun hc_4 => ?_) (fun hc_4 => ?_)
      · skip
        refine ti_const C.1 C.2.1 dX2_told_43 ?_
        exact r_i C hr hlk hS ⟨congrArg iI (by have := hA q; unfold mTold; rw [if_neg (by omega), if_neg (by omega)]; omega), rfl⟩ dX2_told_44
      · skip
        refine ti_const C.1 C.2.1 dX2_told_39 ?_
        refine lv_goto (tgt := 44) C.1 C.2.1 dX2_told_40 (by decide) ?_
        exact r_i C hr hlk hS ⟨congrArg iI (by have := hA q; unfold mTold; rw [if_neg (by omega), if_neg (by omega)]; omega), rfl⟩ dX2_told_44
    · skip
      refine lv_aload_n C.1 C.2.1 dX2_told_17 rfl (lv_at hl 0 rfl) ?_
      refine gf_X2_30_8 C hS hm rfl dX2_told_18 ?_
      refine ti_const C.1 C.2.1 dX2_told_21 ?_
      refine lv_iload_n C.1 C.2.1 dX2_told_22 rfl (lv_at hl 1 rfl) ?_
      refine ti_imul C.1 C.2.1 dX2_told_23 ?_
      refine lv_iload_n C.1 C.2.1 dX2_told_24 rfl (lv_at hl 2 rfl) ?_
      refine ti_iadd C.1 C.2.1 dX2_told_25 ?_
      refine h_ialdZ C hS h4 (by omega) (by omega) (by omega) dX2_told_26 ?_
      have hb_5 := hB 4 (((4 * q) + x))
      refine lv_goto (tgt := 44) C.1 C.2.1 dX2_told_27 (by decide) ?_
      exact r_i C hr hlk hS ⟨congrArg iI (by unfold mTold; rw [if_neg (by omega), if_pos (by omega)]), rfl⟩ dX2_told_44
  · skip
    refine lv_aload_n C.1 C.2.1 dX2_told_4 rfl (lv_at hl 0 rfl) ?_
    refine lv_iload_n C.1 C.2.1 dX2_told_5 rfl (lv_at hl 1 rfl) ?_
    have hb_6 := hB 4 ((4 * q) + 3)
    refine tl_ci (t_V (n := 1) (ci := 8) C hml hS (m2_partOf l X σ mo ad M hM hI (q) (by omega)) q1813 q1815 qs27 q53 q1816 (by decide +kernel) hm rfl rfl hl.1 rfl (Nat.le_of_ble_eq_true rfl) dX2_told_6 ⟨Nat.le_of_ble_eq_true rfl, Nat.le_of_ble_eq_true rfl⟩ ⟨Nat.le_refl _, Nat.le_refl _⟩) hS (fun r_7 σ_9 H locs hP_8 hS => ?_)
    obtain ⟨rfl, rfl⟩ := hP_8
    refine lv_goto (tgt := 44) C.1 C.2.1 dX2_told_9 (by decide) ?_
    exact r_i C hr hlk hS ⟨congrArg iI (by unfold mTold; rw [if_pos (by omega)]), rfl⟩ dX2_told_44

