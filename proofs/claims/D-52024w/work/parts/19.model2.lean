/-! THE MODEL'S PUBLIC METHODS, WALKED (printed by gen_model2.py) -/
set_option maxRecDepth 100000
theorem gp_X2_36_8 {p : Program} {l : Launch} {e : Env} {R : Room} {s : State} {m : MethodId} {args : Array Value} {below : List Frame} {meth : Method} {c : Code} {H : Heap} {locs : List Loc} {cells slots : Nat} {Q : State → Prop} {cc : ByteArray} {pc : Nat} {ls : Array Slot} {rest : List Value} {X : tl_X} {σ : tl_H} {a : Nat} {fs : List Value} {v : Value} (C : tl_C X p s m args c cc RX2) (hS : tl_S X s σ H locs) (he : σ a = some (oO 8 fs)) (hn : narrow (tyX2 0) v = v) (hfit : fits (tyX2 0) v = true) (hl : 0 < fs.length) (hdg : decode cc pc = .ok (.putfield 36, 3)) (kk : ∀ (H1 : Heap) (locs1 : List Loc), tl_S X s (va_up σ a (some (oO 8 (fs.set 0 v)))) H1 locs1 → W p l e R s m args below meth c H1 locs1 cells slots Q (F0 m (pc + 3) ls rest)) : W p l e R s m args below meth c H locs cells slots Q (F0 m pc ls (v :: .ref a :: rest)) :=
  h_put (ref := "TimberListModel") C hS in_X2 tyX2 tyX2_ok nmX2 rfl 0 (by decide) q1727 (fun _ h => h) rfl (by decide) he hn hfit hl hdg kk
set_option maxHeartbeats 4000000 in
theorem m2_fail (l : Launch) (X : tl_X) (σ : tl_H) (mo : Nat) (ad : Nat → Nat) (M : mS) (hM : MD X σ mo ad M) (k : Int)  : tl_Met l X yX2_fail cX2_fail 2 ((Option.some FieldType.int)) 1 (0) (0) [.ref (mo), .int (iI (k))] σ (tl_Qi X (fun r σ' => r = iI 0 ∧ MD X σ' mo ad (mset M 0 k) ∧ mFr σ σ')) := by
  refine tl_start (by decide) (Nat.le_of_ble_eq_true rfl) (fun p e s m below meth c ls C hr hml hlk hnm hS hl => ?_)
  have hl : lv_has ls 2 [(0, .ref (mo)), (1, .int (iI (k)))] := hl
  obtain ⟨hm, h0, h1, h2, h3, h4, h5, hd⟩ := id hM
  have hfr : mFr σ σ := mFr.rf
  refine lv_aload_n C.1 C.2.1 dX2_fail_0 rfl (lv_at hl 0 rfl) ?_
  refine lv_iload_n C.1 C.2.1 dX2_fail_1 rfl (lv_at hl 1 rfl) ?_
  refine gp_X2_36_8 C hS hm rfl rfl (Nat.le_of_ble_eq_true rfl) dX2_fail_2 (fun H locs hS => ?_)
  obtain ⟨σ_1, eσ_1⟩ : ∃ z, z = va_up σ (mo) (some (oO 8 [.int (iI (k)), .int (iI (M.1 1)), .ref (ad 0), .int (iI (M.1 2)), .ref (ad 1), .int (iI (M.1 3)), .ref (ad 2), .ref (ad 3), .int (iI (M.1 4)), .int (iI (M.1 5)), .int (iI (M.1 6)), .ref (ad 4), .ref (ad 5), .int (iI (M.1 7)), .int (iI (M.1 8))])) := ⟨_, rfl⟩
  have hS : tl_S X s σ_1 H locs := by rw [eσ_1]; exact hS
  have he_2 : σ_1 (mo) = some (oO 8 [.int (iI (k)), .int (iI (M.1 1)), .ref (ad 0), .int (iI (M.1 2)), .ref (ad 1), .int (iI (M.1 3)), .ref (ad 2), .ref (ad 3), .int (iI (M.1 4)), .int (iI (M.1 5)), .int (iI (M.1 6)), .ref (ad 4), .ref (ad 5), .int (iI (M.1 7)), .int (iI (M.1 8))]) := by rw [eσ_1]; exact up_s
  have he_3 := up_kp eσ_1 (Ne.symm (tl_neA hm h0)) h0
  have he_4 := up_kp eσ_1 (Ne.symm (tl_neA hm h1)) h1
  have he_5 := up_kp eσ_1 (Ne.symm (tl_neA hm h2)) h2
  have he_6 := up_kp eσ_1 (Ne.symm (tl_neA hm h3)) h3
  have he_7 := up_kp eσ_1 (Ne.symm (tl_neA hm h4)) h4
  have he_8 := up_kp eσ_1 (Ne.symm (tl_neA hm h5)) h5
  have hfr := hfr.up hm mK_o eσ_1
  refine ti_const C.1 C.2.1 dX2_fail_5 ?_
  exact r_i C hr hlk hS ⟨rfl, ⟨he_2, he_3, he_4, he_5, he_6, he_7, he_8, hd⟩, hfr⟩ dX2_fail_6

theorem gp_X2_63_8 {p : Program} {l : Launch} {e : Env} {R : Room} {s : State} {m : MethodId} {args : Array Value} {below : List Frame} {meth : Method} {c : Code} {H : Heap} {locs : List Loc} {cells slots : Nat} {Q : State → Prop} {cc : ByteArray} {pc : Nat} {ls : Array Slot} {rest : List Value} {X : tl_X} {σ : tl_H} {a : Nat} {fs : List Value} {v : Value} (C : tl_C X p s m args c cc RX2) (hS : tl_S X s σ H locs) (he : σ a = some (oO 8 fs)) (hn : narrow (tyX2 10) v = v) (hfit : fits (tyX2 10) v = true) (hl : 10 < fs.length) (hdg : decode cc pc = .ok (.putfield 63, 3)) (kk : ∀ (H1 : Heap) (locs1 : List Loc), tl_S X s (va_up σ a (some (oO 8 (fs.set 10 v)))) H1 locs1 → W p l e R s m args below meth c H1 locs1 cells slots Q (F0 m (pc + 3) ls rest)) : W p l e R s m args below meth c H locs cells slots Q (F0 m pc ls (v :: .ref a :: rest)) :=
  h_put (ref := "TimberListModel") C hS in_X2 tyX2 tyX2_ok nmX2 rfl 10 (by decide) q1737 (fun _ h => h) rfl (by decide) he hn hfit hl hdg kk
set_option maxHeartbeats 4000000 in
theorem m2_add (l : Launch) (X : tl_X) (σ : tl_H) (mo : Nat) (ad : Nat → Nat) (M : mS) (hM : MD X σ mo ad M) (pa b pl ln j : Int) (h6 : 0 ≤ M.1 6 ∧ M.1 6 < 216) (hj : j = 0 ∨ j = 1) : tl_Met l X yX2_add cX2_add 6 ((Option.none : Option FieldType)) 1 (0) (0) [.ref (mo), .int (iI (pa)), .int (iI (b)), .int (iI (pl)), .int (iI (ln)), .int (iI (j))] σ (tl_Qv X (fun σ' => MD X σ' mo ad (mAdd M pa b pl ln j) ∧ mFr σ σ')) := by
  refine tl_start (by decide) (Nat.le_of_ble_eq_true rfl) (fun p e s m below meth c ls C hr hml hlk hnm hS hl => ?_)
  have hl : lv_has ls 6 [(0, .ref (mo)), (1, .int (iI (pa))), (2, .int (iI (b))), (3, .int (iI (pl))), (4, .int (iI (ln))), (5, .int (iI (j)))] := hl
  obtain ⟨hm, h0, h1, h2, h3, h4, h5, hd⟩ := id hM
  have hfr : mFr σ σ := mFr.rf
  refine lv_aload_n C.1 C.2.1 dX2_add_0 rfl (lv_at hl 0 rfl) ?_
  refine gf_X2_30_8 C hS hm rfl dX2_add_1 ?_
  refine ti_const C.1 C.2.1 dX2_add_4 ?_
  refine lv_aload_n C.1 C.2.1 dX2_add_5 rfl (lv_at hl 0 rfl) ?_
  refine gf_X2_63_8 C hS hm rfl dX2_add_6 ?_
  refine ti_imul C.1 C.2.1 dX2_add_9 ?_
  refine lv_iload_n C.1 C.2.1 dX2_add_10 rfl (lv_at hl 2 rfl) ?_
  refine h_iastZ C hS h4 (by omega) (by omega) (by omega) dX2_add_11 (fun H locs hS => ?_)
  obtain ⟨σ_1, eσ_1⟩ : ∃ z, z = va_up σ (ad 4) (some (oI (X.2.2.1 0) 864 (zA (zup (M.2 4) ((4 * M.1 6)) (b))))) := ⟨_, rfl⟩
  rw [← eσ_1] at hS
  have he_2 := up_kp eσ_1 (tl_neA hm h4) hm
  have he_3 := up_kp eσ_1 (fun z => absurd (hd 0 4 (by decide) (by decide) z) (by decide)) h0
  have he_4 := up_kp eσ_1 (fun z => absurd (hd 1 4 (by decide) (by decide) z) (by decide)) h1
  have he_5 := up_kp eσ_1 (fun z => absurd (hd 2 4 (by decide) (by decide) z) (by decide)) h2
  have he_6 := up_kp eσ_1 (fun z => absurd (hd 3 4 (by decide) (by decide) z) (by decide)) h3
  have he_7 : σ_1 (ad 4) = some (oI (X.2.2.1 0) 864 (zA (zup (M.2 4) ((4 * M.1 6)) (b)))) := by rw [eσ_1]; exact up_s
  have he_8 := up_kp eσ_1 (fun z => absurd (hd 5 4 (by decide) (by decide) z) (by decide)) h5
  have hfr := hfr.up h4 mK_i eσ_1
  refine lv_aload_n C.1 C.2.1 dX2_add_12 rfl (lv_at hl 0 rfl) ?_
  refine gf_X2_30_8 C hS he_2 rfl dX2_add_13 ?_
  refine ti_const C.1 C.2.1 dX2_add_16 ?_
  refine lv_aload_n C.1 C.2.1 dX2_add_17 rfl (lv_at hl 0 rfl) ?_
  refine gf_X2_63_8 C hS he_2 rfl dX2_add_18 ?_
  refine ti_imul C.1 C.2.1 dX2_add_21 ?_
  refine ti_const C.1 C.2.1 dX2_add_22 ?_
  refine ti_iadd C.1 C.2.1 dX2_add_23 ?_
  refine lv_iload_n C.1 C.2.1 dX2_add_24 rfl (lv_at hl 3 rfl) ?_
  refine h_iastZ C hS he_7 (by omega) (by omega) (by omega) dX2_add_25 (fun H locs hS => ?_)
  obtain ⟨σ_9, eσ_9⟩ : ∃ z, z = va_up σ_1 (ad 4) (some (oI (X.2.2.1 0) 864 (zA (zup (zup (M.2 4) ((4 * M.1 6)) (b)) (((4 * M.1 6) + 1)) (pl))))) := ⟨_, rfl⟩
  rw [← eσ_9] at hS
  have he_10 := up_kp eσ_9 (tl_neA he_2 he_7) he_2
  have he_11 := up_kp eσ_9 (fun z => absurd (hd 0 4 (by decide) (by decide) z) (by decide)) he_3
  have he_12 := up_kp eσ_9 (fun z => absurd (hd 1 4 (by decide) (by decide) z) (by decide)) he_4
  have he_13 := up_kp eσ_9 (fun z => absurd (hd 2 4 (by decide) (by decide) z) (by decide)) he_5
  have he_14 := up_kp eσ_9 (fun z => absurd (hd 3 4 (by decide) (by decide) z) (by decide)) he_6
  have he_15 : σ_9 (ad 4) = some (oI (X.2.2.1 0) 864 (zA (zup (zup (M.2 4) ((4 * M.1 6)) (b)) (((4 * M.1 6) + 1)) (pl)))) := by rw [eσ_9]; exact up_s
  have he_16 := up_kp eσ_9 (fun z => absurd (hd 5 4 (by decide) (by decide) z) (by decide)) he_8
  have hfr := hfr.up he_7 mK_i eσ_9
  refine lv_aload_n C.1 C.2.1 dX2_add_26 rfl (lv_at hl 0 rfl) ?_
  refine gf_X2_30_8 C hS he_10 rfl dX2_add_27 ?_
  refine ti_const C.1 C.2.1 dX2_add_30 ?_
  refine lv_aload_n C.1 C.2.1 dX2_add_31 rfl (lv_at hl 0 rfl) ?_
  refine gf_X2_63_8 C hS he_10 rfl dX2_add_32 ?_
  refine ti_imul C.1 C.2.1 dX2_add_35 ?_
  refine ti_const C.1 C.2.1 dX2_add_36 ?_
  refine ti_iadd C.1 C.2.1 dX2_add_37 ?_
  refine lv_iload_n C.1 C.2.1 dX2_add_38 rfl (lv_at hl 3 rfl) ?_
  refine lv_iload C.1 C.2.1 dX2_add_39 (lv_at hl 4 rfl) ?_
  refine ti_iadd C.1 C.2.1 dX2_add_41 ?_
  refine h_iastZ C hS he_15 (by omega) (by omega) (by omega) dX2_add_42 (fun H locs hS => ?_)
  obtain ⟨σ_17, eσ_17⟩ : ∃ z, z = va_up σ_9 (ad 4) (some (oI (X.2.2.1 0) 864 (zA (zup (zup (zup (M.2 4) ((4 * M.1 6)) (b)) (((4 * M.1 6) + 1)) (pl)) (((4 * M.1 6) + 2)) ((pl + ln)))))) := ⟨_, rfl⟩
  rw [← eσ_17] at hS
  have he_18 := up_kp eσ_17 (tl_neA he_10 he_15) he_10
  have he_19 := up_kp eσ_17 (fun z => absurd (hd 0 4 (by decide) (by decide) z) (by decide)) he_11
  have he_20 := up_kp eσ_17 (fun z => absurd (hd 1 4 (by decide) (by decide) z) (by decide)) he_12
  have he_21 := up_kp eσ_17 (fun z => absurd (hd 2 4 (by decide) (by decide) z) (by decide)) he_13
  have he_22 := up_kp eσ_17 (fun z => absurd (hd 3 4 (by decide) (by decide) z) (by decide)) he_14
  have he_23 : σ_17 (ad 4) = some (oI (X.2.2.1 0) 864 (zA (zup (zup (zup (M.2 4) ((4 * M.1 6)) (b)) (((4 * M.1 6) + 1)) (pl)) (((4 * M.1 6) + 2)) ((pl + ln))))) := by rw [eσ_17]; exact up_s
  have he_24 := up_kp eσ_17 (fun z => absurd (hd 5 4 (by decide) (by decide) z) (by decide)) he_16
  have hfr := hfr.up he_15 mK_i eσ_17
  refine lv_aload_n C.1 C.2.1 dX2_add_43 rfl (lv_at hl 0 rfl) ?_
  refine gf_X2_30_8 C hS he_18 rfl dX2_add_44 ?_
  refine ti_const C.1 C.2.1 dX2_add_47 ?_
  refine lv_aload_n C.1 C.2.1 dX2_add_48 rfl (lv_at hl 0 rfl) ?_
  refine gf_X2_63_8 C hS he_18 rfl dX2_add_49 ?_
  refine ti_imul C.1 C.2.1 dX2_add_52 ?_
  refine ti_const C.1 C.2.1 dX2_add_53 ?_
  refine ti_iadd C.1 C.2.1 dX2_add_54 ?_
  refine lv_iload_n C.1 C.2.1 dX2_add_55 rfl (lv_at hl 1 rfl) ?_
  refine h_iastZ C hS he_23 (by omega) (by omega) (by omega) dX2_add_56 (fun H locs hS => ?_)
  obtain ⟨σ_25, eσ_25⟩ : ∃ z, z = va_up σ_17 (ad 4) (some (oI (X.2.2.1 0) 864 (zA (zup (zup (zup (zup (M.2 4) ((4 * M.1 6)) (b)) (((4 * M.1 6) + 1)) (pl)) (((4 * M.1 6) + 2)) ((pl + ln))) (((4 * M.1 6) + 3)) (pa))))) := ⟨_, rfl⟩
  rw [← eσ_25] at hS
  have he_26 := up_kp eσ_25 (tl_neA he_18 he_23) he_18
  have he_27 := up_kp eσ_25 (fun z => absurd (hd 0 4 (by decide) (by decide) z) (by decide)) he_19
  have he_28 := up_kp eσ_25 (fun z => absurd (hd 1 4 (by decide) (by decide) z) (by decide)) he_20
  have he_29 := up_kp eσ_25 (fun z => absurd (hd 2 4 (by decide) (by decide) z) (by decide)) he_21
  have he_30 := up_kp eσ_25 (fun z => absurd (hd 3 4 (by decide) (by decide) z) (by decide)) he_22
  have he_31 : σ_25 (ad 4) = some (oI (X.2.2.1 0) 864 (zA (zup (zup (zup (zup (M.2 4) ((4 * M.1 6)) (b)) (((4 * M.1 6) + 1)) (pl)) (((4 * M.1 6) + 2)) ((pl + ln))) (((4 * M.1 6) + 3)) (pa)))) := by rw [eσ_25]; exact up_s
  have he_32 := up_kp eσ_25 (fun z => absurd (hd 5 4 (by decide) (by decide) z) (by decide)) he_24
  have hfr := hfr.up he_23 mK_i eσ_25
  refine lv_aload_n C.1 C.2.1 dX2_add_57 rfl (lv_at hl 0 rfl) ?_
  refine gf_X2_33_8 C hS he_26 rfl dX2_add_58 ?_
  refine lv_aload_n C.1 C.2.1 dX2_add_61 rfl (lv_at hl 0 rfl) ?_
  refine gf_X2_63_8 C hS he_26 rfl dX2_add_62 ?_
  refine lv_iload C.1 C.2.1 dX2_add_65 (lv_at hl 5 rfl) ?_
  refine h_zastZ C hS he_32 (by omega) (by omega) (by omega) (by omega) dX2_add_67 (fun H locs hS => ?_)
  obtain ⟨σ_33, eσ_33⟩ : ∃ z, z = va_up σ_25 (ad 5) (some (oI (X.2.2.1 1) 216 (zA (zup (M.2 5) (M.1 6) (j))))) := ⟨_, rfl⟩
  rw [← eσ_33] at hS
  have he_34 := up_kp eσ_33 (tl_neA he_26 he_32) he_26
  have he_35 := up_kp eσ_33 (fun z => absurd (hd 0 5 (by decide) (by decide) z) (by decide)) he_27
  have he_36 := up_kp eσ_33 (fun z => absurd (hd 1 5 (by decide) (by decide) z) (by decide)) he_28
  have he_37 := up_kp eσ_33 (fun z => absurd (hd 2 5 (by decide) (by decide) z) (by decide)) he_29
  have he_38 := up_kp eσ_33 (fun z => absurd (hd 3 5 (by decide) (by decide) z) (by decide)) he_30
  have he_39 := up_kp eσ_33 (fun z => absurd (hd 4 5 (by decide) (by decide) z) (by decide)) he_31
  have he_40 : σ_33 (ad 5) = some (oI (X.2.2.1 1) 216 (zA (zup (M.2 5) (M.1 6) (j)))) := by rw [eσ_33]; exact up_s
  have hfr := hfr.up he_32 mK_i eσ_33
  refine lv_aload_n C.1 C.2.1 dX2_add_68 rfl (lv_at hl 0 rfl) ?_
  refine lv_dup C.1 C.2.1 dX2_add_69 rfl ?_
  refine gf_X2_63_8 C hS he_34 rfl dX2_add_70 ?_
  refine ti_const C.1 C.2.1 dX2_add_73 ?_
  refine ti_iadd C.1 C.2.1 dX2_add_74 ?_
  refine gp_X2_63_8 C hS he_34 rfl rfl (Nat.le_of_ble_eq_true rfl) dX2_add_75 (fun H locs hS => ?_)
  obtain ⟨σ_41, eσ_41⟩ : ∃ z, z = va_up σ_33 (mo) (some (oO 8 [.int (iI (M.1 0)), .int (iI (M.1 1)), .ref (ad 0), .int (iI (M.1 2)), .ref (ad 1), .int (iI (M.1 3)), .ref (ad 2), .ref (ad 3), .int (iI (M.1 4)), .int (iI (M.1 5)), .int (iI ((M.1 6 + 1))), .ref (ad 4), .ref (ad 5), .int (iI (M.1 7)), .int (iI (M.1 8))])) := ⟨_, rfl⟩
  have hS : tl_S X s σ_41 H locs := by rw [eσ_41]; exact hS
  have he_42 : σ_41 (mo) = some (oO 8 [.int (iI (M.1 0)), .int (iI (M.1 1)), .ref (ad 0), .int (iI (M.1 2)), .ref (ad 1), .int (iI (M.1 3)), .ref (ad 2), .ref (ad 3), .int (iI (M.1 4)), .int (iI (M.1 5)), .int (iI ((M.1 6 + 1))), .ref (ad 4), .ref (ad 5), .int (iI (M.1 7)), .int (iI (M.1 8))]) := by rw [eσ_41]; exact up_s
  have he_43 := up_kp eσ_41 (Ne.symm (tl_neA he_34 he_35)) he_35
  have he_44 := up_kp eσ_41 (Ne.symm (tl_neA he_34 he_36)) he_36
  have he_45 := up_kp eσ_41 (Ne.symm (tl_neA he_34 he_37)) he_37
  have he_46 := up_kp eσ_41 (Ne.symm (tl_neA he_34 he_38)) he_38
  have he_47 := up_kp eσ_41 (Ne.symm (tl_neA he_34 he_39)) he_39
  have he_48 := up_kp eσ_41 (Ne.symm (tl_neA he_34 he_40)) he_40
  have hfr := hfr.up he_34 mK_o eσ_41
  exact r_v C hr hlk hS ⟨⟨he_42, he_43, he_44, he_45, he_46, he_47, he_48, hd⟩, hfr⟩ dX2_add_78

set_option maxHeartbeats 4000000 in
theorem m2_lessLeft (l : Launch) (X : tl_X) (σ : tl_H) (mo : Nat) (ad : Nat → Nat) (M : mS) (hM : MD X σ mo ad M) (pa : Int) (hr : 0 ≤ pa ∧ pa < 12) : tl_Met l X yX2_lessLeft cX2_lessLeft 2 ((Option.some FieldType.int)) 1 (0) (0) [.ref (mo), .int (iI (pa))] σ (tl_Qi X (fun r σ' => r = iI (M.2 2 (4 * pa + 3) - 1) ∧ MD X σ' mo ad (mLess M pa) ∧ mFr σ σ')) := by
  refine tl_start (by decide) (Nat.le_of_ble_eq_true rfl) (fun p e s m below meth c ls C hr hml hlk hnm hS hl => ?_)
  have hl : lv_has ls 2 [(0, .ref (mo)), (1, .int (iI (pa)))] := hl
  obtain ⟨hm, h0, h1, h2, h3, h4, h5, hd⟩ := id hM
  have hfr : mFr σ σ := mFr.rf
  refine lv_aload_n C.1 C.2.1 dX2_lessLeft_0 rfl (lv_at hl 0 rfl) ?_
  refine gf_X2_16_8 C hS hm rfl dX2_lessLeft_1 ?_
  refine ti_const C.1 C.2.1 dX2_lessLeft_4 ?_
  refine lv_iload_n C.1 C.2.1 dX2_lessLeft_5 rfl (lv_at hl 1 rfl) ?_
  refine ti_imul C.1 C.2.1 dX2_lessLeft_6 ?_
  refine ti_const C.1 C.2.1 dX2_lessLeft_7 ?_
  refine ti_iadd C.1 C.2.1 dX2_lessLeft_8 ?_
  refine lv_dup2_11 C.1 C.2.1 dX2_lessLeft_9 rfl rfl ?_
  refine h_ialdZ C hS h2 (by omega) (by omega) (by omega) dX2_lessLeft_10 ?_
  refine ti_const C.1 C.2.1 dX2_lessLeft_11 ?_
  refine ti_isub C.1 C.2.1 dX2_lessLeft_12 ?_
  refine h_iastZ C hS h2 (by omega) (by omega) (by omega) dX2_lessLeft_13 (fun H locs hS => ?_)
  obtain ⟨σ_1, eσ_1⟩ : ∃ z, z = va_up σ (ad 2) (some (oI (X.2.2.1 0) 48 (zA (zup (M.2 2) (((4 * pa) + 3)) ((((M.2 2) (((4 * pa) + 3))) - 1)))))) := ⟨_, rfl⟩
  rw [← eσ_1] at hS
  have he_2 := up_kp eσ_1 (tl_neA hm h2) hm
  have he_3 := up_kp eσ_1 (fun z => absurd (hd 0 2 (by decide) (by decide) z) (by decide)) h0
  have he_4 := up_kp eσ_1 (fun z => absurd (hd 1 2 (by decide) (by decide) z) (by decide)) h1
  have he_5 : σ_1 (ad 2) = some (oI (X.2.2.1 0) 48 (zA (zup (M.2 2) (((4 * pa) + 3)) ((((M.2 2) (((4 * pa) + 3))) - 1))))) := by rw [eσ_1]; exact up_s
  have he_6 := up_kp eσ_1 (fun z => absurd (hd 3 2 (by decide) (by decide) z) (by decide)) h3
  have he_7 := up_kp eσ_1 (fun z => absurd (hd 4 2 (by decide) (by decide) z) (by decide)) h4
  have he_8 := up_kp eσ_1 (fun z => absurd (hd 5 2 (by decide) (by decide) z) (by decide)) h5
  have hfr := hfr.up h2 mK_i eσ_1
  refine lv_aload_n C.1 C.2.1 dX2_lessLeft_14 rfl (lv_at hl 0 rfl) ?_
  refine gf_X2_16_8 C hS he_2 rfl dX2_lessLeft_15 ?_
  refine ti_const C.1 C.2.1 dX2_lessLeft_18 ?_
  refine lv_iload_n C.1 C.2.1 dX2_lessLeft_19 rfl (lv_at hl 1 rfl) ?_
  refine ti_imul C.1 C.2.1 dX2_lessLeft_20 ?_
  refine ti_const C.1 C.2.1 dX2_lessLeft_21 ?_
  refine ti_iadd C.1 C.2.1 dX2_lessLeft_22 ?_
  refine h_ialdZ C hS he_5 (by omega) (by omega) (by omega) dX2_lessLeft_23 ?_
  exact r_i C hr hlk hS ⟨congrArg iI (by rw [zup_s]), ⟨he_2, he_3, he_4, he_5, he_6, he_7, he_8, hd⟩, hfr⟩ dX2_lessLeft_24

theorem gf_X2_36_8 {p : Program} {l : Launch} {e : Env} {R : Room} {s : State} {m : MethodId} {args : Array Value} {below : List Frame} {meth : Method} {c : Code} {H : Heap} {locs : List Loc} {cells slots : Nat} {Q : State → Prop} {cc : ByteArray} {pc : Nat} {ls : Array Slot} {rest : List Value} {X : tl_X} {σ : tl_H} {a : Nat} {fs : List Value} {v : Value} (C : tl_C X p s m args c cc RX2) (hS : tl_S X s σ H locs) (he : σ a = some (oO 8 fs)) (hv : fs[0]? = some v) (hdg : decode cc pc = .ok (.getfield 36, 3)) (kk : W p l e R s m args below meth c H locs cells slots Q (F0 m (pc + 3) ls (v :: rest))) : W p l e R s m args below meth c H locs cells slots Q (F0 m pc ls (.ref a :: rest)) :=
  h_get (ref := "TimberListModel") C hS in_X2 rfl 0 (by decide) q1727 (fun _ h => h) he hv hdg kk
set_option maxHeartbeats 4000000 in
theorem m2_thrown (l : Launch) (X : tl_X) (σ : tl_H) (mo : Nat) (ad : Nat → Nat) (M : mS) (hM : MD X σ mo ad M) : tl_Met l X yX2_thrown cX2_thrown 1 ((Option.some FieldType.int)) 1 (0) (0) [.ref (mo)] σ (tl_Qi X (fun r σ' => r = iI (M.1 0) ∧ σ = σ')) := by
  refine tl_start (by decide) (Nat.le_of_ble_eq_true rfl) (fun p e s m below meth c ls C hr hml hlk hnm hS hl => ?_)
  have hl : lv_has ls 1 [(0, .ref (mo))] := hl
  obtain ⟨hm, h0, h1, h2, h3, h4, h5, hd⟩ := id hM
  refine lv_aload_n C.1 C.2.1 dX2_thrown_0 rfl (lv_at hl 0 rfl) ?_
  refine gf_X2_36_8 C hS hm rfl dX2_thrown_1 ?_
  exact r_i C hr hlk hS ⟨rfl, rfl⟩ dX2_thrown_4

theorem gp_X2_39_8 {p : Program} {l : Launch} {e : Env} {R : Room} {s : State} {m : MethodId} {args : Array Value} {below : List Frame} {meth : Method} {c : Code} {H : Heap} {locs : List Loc} {cells slots : Nat} {Q : State → Prop} {cc : ByteArray} {pc : Nat} {ls : Array Slot} {rest : List Value} {X : tl_X} {σ : tl_H} {a : Nat} {fs : List Value} {v : Value} (C : tl_C X p s m args c cc RX2) (hS : tl_S X s σ H locs) (he : σ a = some (oO 8 fs)) (hn : narrow (tyX2 1) v = v) (hfit : fits (tyX2 1) v = true) (hl : 1 < fs.length) (hdg : decode cc pc = .ok (.putfield 39, 3)) (kk : ∀ (H1 : Heap) (locs1 : List Loc), tl_S X s (va_up σ a (some (oO 8 (fs.set 1 v)))) H1 locs1 → W p l e R s m args below meth c H1 locs1 cells slots Q (F0 m (pc + 3) ls rest)) : W p l e R s m args below meth c H locs cells slots Q (F0 m pc ls (v :: .ref a :: rest)) :=
  h_put (ref := "TimberListModel") C hS in_X2 tyX2 tyX2_ok nmX2 rfl 1 (by decide) q1728 (fun _ h => h) rfl (by decide) he hn hfit hl hdg kk
set_option maxHeartbeats 4000000 in
theorem m2_addBoard (l : Launch) (X : tl_X) (σ : tl_H) (mo : Nat) (ad : Nat → Nat) (M : mS) (hM : MD X σ mo ad M) (hI : mI M) (ln w g : Int) (hr : -2147483648 ≤ ln ∧ ln ≤ 2147483647 ∧ -2147483648 ≤ w ∧ w ≤ 2147483647 ∧ -2147483648 ≤ g ∧ g ≤ 2147483647) : tl_Met l X yX2_addBoard cX2_addBoard 4 ((Option.some FieldType.int)) 3 (0) (0) [.ref (mo), .int (iI (ln)), .int (iI (w)), .int (iI (g))] σ (tl_Qi X (fun r σ' => r = iI (mAddBoard (mset M 0 0) ln w g).1 ∧ MD X σ' mo ad (mAddBoard (mset M 0 0) ln w g).2 ∧ mFr σ σ')) := by
  obtain ⟨M1, eM1⟩ : ∃ z, z = mset M 0 0 := ⟨_, rfl⟩
  rw [← eM1]
  refine tl_start (by decide) (Nat.le_of_ble_eq_true rfl) (fun p e s m below meth c ls C hr hml hlk hnm hS hl => ?_)
  have hl : lv_has ls 4 [(0, .ref (mo)), (1, .int (iI (ln))), (2, .int (iI (w))), (3, .int (iI (g)))] := hl
  obtain ⟨hm, h0, h1, h2, h3, h4, h5, hd⟩ := id hM
  obtain ⟨hN, hB, hPt, hJ, hA, hWn⟩ := id hI
  have hfr : mFr σ σ := mFr.rf
  refine lv_aload_n C.1 C.2.1 dX2_addBoard_0 rfl (lv_at hl 0 rfl) ?_
  refine ti_const C.1 C.2.1 dX2_addBoard_1 ?_
  refine gp_X2_36_8 C hS hm rfl rfl (Nat.le_of_ble_eq_true rfl) dX2_addBoard_2 (fun H locs hS => ?_)
  obtain ⟨σ_1, eσ_1⟩ : ∃ z, z = va_up σ (mo) (some (oO 8 [.int (iI (0)), .int (iI (M.1 1)), .ref (ad 0), .int (iI (M.1 2)), .ref (ad 1), .int (iI (M.1 3)), .ref (ad 2), .ref (ad 3), .int (iI (M.1 4)), .int (iI (M.1 5)), .int (iI (M.1 6)), .ref (ad 4), .ref (ad 5), .int (iI (M.1 7)), .int (iI (M.1 8))])) := ⟨_, rfl⟩
  have hS : tl_S X s σ_1 H locs := by rw [eσ_1]; exact hS
  have he_2 : σ_1 (mo) = some (oO 8 [.int (iI (0)), .int (iI (M.1 1)), .ref (ad 0), .int (iI (M.1 2)), .ref (ad 1), .int (iI (M.1 3)), .ref (ad 2), .ref (ad 3), .int (iI (M.1 4)), .int (iI (M.1 5)), .int (iI (M.1 6)), .ref (ad 4), .ref (ad 5), .int (iI (M.1 7)), .int (iI (M.1 8))]) := by rw [eσ_1]; exact up_s
  have he_3 := up_kp eσ_1 (Ne.symm (tl_neA hm h0)) h0
  have he_4 := up_kp eσ_1 (Ne.symm (tl_neA hm h1)) h1
  have he_5 := up_kp eσ_1 (Ne.symm (tl_neA hm h2)) h2
  have he_6 := up_kp eσ_1 (Ne.symm (tl_neA hm h3)) h3
  have he_7 := up_kp eσ_1 (Ne.symm (tl_neA hm h4)) h4
  have he_8 := up_kp eσ_1 (Ne.symm (tl_neA hm h5)) h5
  have hfr := hfr.up hm mK_o eσ_1
  have hM1 : MD X σ_1 mo ad M1 := by rw [eM1]; exact ⟨he_2, he_3, he_4, he_5, he_6, he_7, he_8, hd⟩
  have hI1 : mI M1 := by rw [eM1]; exact hI.t0 0 (by decide)
  obtain ⟨hm, h0, h1, h2, h3, h4, h5, hd⟩ := id hM1
  obtain ⟨hN, hB, hPt, hJ, hA, hWn⟩ := id hI1
  refine lv_iload_n C.1 C.2.1 dX2_addBoard_5 rfl (lv_at hl 1 rfl) ?_
  refine ti_bipush C.1 C.2.1 dX2_addBoard_6 (by decide) ?_
  refine ti_sipush C.1 C.2.1 dX2_addBoard_8 (by decide) ?_
  refine tl_ci (t_S (n := 3) C hml hS (m2_isIn l X σ_1 (ln) (100) (3000) (by omega)) q1782 q1783 q53 q1784 (by decide +kernel) rfl hl.1 rfl (Nat.le_of_ble_eq_true rfl) dX2_addBoard_11 ⟨Nat.le_of_ble_eq_true rfl, Nat.le_of_ble_eq_true rfl⟩ ⟨Nat.le_refl _, Nat.le_refl _⟩) hS (fun r_9 σ_11 H locs hP_10 hS => ?_)
  obtain ⟨rfl, rfl⟩ := hP_10
  refine ti_tb_eq (tgt := 38) C.1 C.2.1 dX2_addBoard_14 (by decide) (fun hc_12 => ?_) (fun hc_12 => ?_)
  · skip
    refine lv_aload_n C.1 C.2.1 dX2_addBoard_38 rfl (lv_at hl 0 rfl) ?_
    refine ti_const C.1 C.2.1 dX2_addBoard_39 ?_
    refine tl_ci (t_V (n := 1) (ci := 8) C hml hS (m2_fail l X σ_1 mo ad M1 ⟨hm, h0, h1, h2, h3, h4, h5, hd⟩ (1)) q1785 q1787 qs21 q53 q1788 (by decide +kernel) hm rfl rfl hl.1 rfl (Nat.le_of_ble_eq_true rfl) dX2_addBoard_40 ⟨Nat.le_of_ble_eq_true rfl, Nat.le_of_ble_eq_true rfl⟩ ⟨Nat.le_refl _, Nat.le_refl _⟩) hS (fun r_13 σ_15 H locs hP_14 hS => ?_)
    obtain ⟨rfl, hM_16, hfr9⟩ := hP_14
    have hfr := hfr.trans hfr9
    obtain ⟨hm_17, hm_18, hm_19, hm_20, hm_21, hm_22, hm_23, hd⟩ := id hM_16
    exact r_i C hr hlk hS (by rw [show mAddBoard M1 ln w g = (0, (mset M1 0 (1))) from by (unfold mAddBoard; (repeat (first | rw [if_pos (by omega)] | rw [if_neg (by omega)])); try rfl)]; exact ⟨rfl, ⟨hm_17, hm_18, hm_19, hm_20, hm_21, hm_22, hm_23, hd⟩, hfr⟩) dX2_addBoard_43
  · skip
    refine lv_iload_n C.1 C.2.1 dX2_addBoard_17 rfl (lv_at hl 2 rfl) ?_
    refine ti_bipush C.1 C.2.1 dX2_addBoard_18 (by decide) ?_
    refine ti_sipush C.1 C.2.1 dX2_addBoard_20 (by decide) ?_
    refine tl_ci (t_S (n := 3) C hml hS (m2_isIn l X σ_1 (w) (10) (400) (by omega)) q1782 q1783 q53 q1784 (by decide +kernel) rfl hl.1 rfl (Nat.le_of_ble_eq_true rfl) dX2_addBoard_23 ⟨Nat.le_of_ble_eq_true rfl, Nat.le_of_ble_eq_true rfl⟩ ⟨Nat.le_refl _, Nat.le_refl _⟩) hS (fun r_24 σ_26 H locs hP_25 hS => ?_)
    obtain ⟨rfl, rfl⟩ := hP_25
    refine ti_tb_eq (tgt := 38) C.1 C.2.1 dX2_addBoard_26 (by decide) (fun hc_27 => ?_) (fun hc_27 => ?_)
    · skip
      refine lv_aload_n C.1 C.2.1 dX2_addBoard_38 rfl (lv_at hl 0 rfl) ?_
      refine ti_const C.1 C.2.1 dX2_addBoard_39 ?_
      refine tl_ci (t_V (n := 1) (ci := 8) C hml hS (m2_fail l X σ_1 mo ad M1 ⟨hm, h0, h1, h2, h3, h4, h5, hd⟩ (1)) q1785 q1787 qs21 q53 q1788 (by decide +kernel) hm rfl rfl hl.1 rfl (Nat.le_of_ble_eq_true rfl) dX2_addBoard_40 ⟨Nat.le_of_ble_eq_true rfl, Nat.le_of_ble_eq_true rfl⟩ ⟨Nat.le_refl _, Nat.le_refl _⟩) hS (fun r_28 σ_30 H locs hP_29 hS => ?_)
      obtain ⟨rfl, hM_31, hfr9⟩ := hP_29
      have hfr := hfr.trans hfr9
      obtain ⟨hm_32, hm_33, hm_34, hm_35, hm_36, hm_37, hm_38, hd⟩ := id hM_31
      exact r_i C hr hlk hS (by rw [show mAddBoard M1 ln w g = (0, (mset M1 0 (1))) from by (unfold mAddBoard; (repeat (first | rw [if_pos (by omega)] | rw [if_neg (by omega)])); try rfl)]; exact ⟨rfl, ⟨hm_32, hm_33, hm_34, hm_35, hm_36, hm_37, hm_38, hd⟩, hfr⟩) dX2_addBoard_43
    · skip
      refine lv_iload_n C.1 C.2.1 dX2_addBoard_29 rfl (lv_at hl 3 rfl) ?_
      refine ti_const C.1 C.2.1 dX2_addBoard_30 ?_
      refine ti_const C.1 C.2.1 dX2_addBoard_31 ?_
      refine tl_ci (t_S (n := 3) C hml hS (m2_isIn l X σ_1 (g) (0) (3) (by omega)) q1782 q1783 q53 q1784 (by decide +kernel) rfl hl.1 rfl (Nat.le_of_ble_eq_true rfl) dX2_addBoard_32 ⟨Nat.le_of_ble_eq_true rfl, Nat.le_of_ble_eq_true rfl⟩ ⟨Nat.le_refl _, Nat.le_refl _⟩) hS (fun r_39 σ_41 H locs hP_40 hS => ?_)
      obtain ⟨rfl, rfl⟩ := hP_40
      refine ti_tb_ne (tgt := 44) C.1 C.2.1 dX2_addBoard_35 (by decide) (fun hc_42 => ?_) (fun hc_42 => ?_)
      · skip
        refine lv_aload_n C.1 C.2.1 dX2_addBoard_44 rfl (lv_at hl 0 rfl) ?_
        refine gf_X2_39_8 C hS hm rfl dX2_addBoard_45 ?_
        refine ti_bipush C.1 C.2.1 dX2_addBoard_48 (by decide) ?_
        refine ti_icmp_ne (tgt := 59) C.1 C.2.1 dX2_addBoard_50 (by decide) ⟨by omega, by omega⟩ ⟨by decide, by decide⟩ (fun hc_43 => ?_) (fun hc_43 => ?_)
        · skip
          refine lv_aload_n C.1 C.2.1 dX2_addBoard_59 rfl (lv_at hl 0 rfl) ?_
          refine gf_X2_9_8 C hS hm rfl dX2_addBoard_60 ?_
          refine ti_const C.1 C.2.1 dX2_addBoard_63 ?_
          refine lv_aload_n C.1 C.2.1 dX2_addBoard_64 rfl (lv_at hl 0 rfl) ?_
          refine gf_X2_39_8 C hS hm rfl dX2_addBoard_65 ?_
          refine ti_imul C.1 C.2.1 dX2_addBoard_68 ?_
          refine lv_iload_n C.1 C.2.1 dX2_addBoard_69 rfl (lv_at hl 1 rfl) ?_
          refine h_iastZ C hS h0 (by omega) (by omega) (by omega) dX2_addBoard_70 (fun H locs hS => ?_)
          obtain ⟨σ_44, eσ_44⟩ : ∃ z, z = va_up σ_1 (ad 0) (some (oI (X.2.2.1 0) 30 (zA (zup (M1.2 0) ((3 * M1.1 1)) (ln))))) := ⟨_, rfl⟩
          rw [← eσ_44] at hS
          have he_45 := up_kp eσ_44 (tl_neA hm h0) hm
          have he_46 : σ_44 (ad 0) = some (oI (X.2.2.1 0) 30 (zA (zup (M1.2 0) ((3 * M1.1 1)) (ln)))) := by rw [eσ_44]; exact up_s
          have he_47 := up_kp eσ_44 (fun z => absurd (hd 1 0 (by decide) (by decide) z) (by decide)) h1
          have he_48 := up_kp eσ_44 (fun z => absurd (hd 2 0 (by decide) (by decide) z) (by decide)) h2
          have he_49 := up_kp eσ_44 (fun z => absurd (hd 3 0 (by decide) (by decide) z) (by decide)) h3
          have he_50 := up_kp eσ_44 (fun z => absurd (hd 4 0 (by decide) (by decide) z) (by decide)) h4
          have he_51 := up_kp eσ_44 (fun z => absurd (hd 5 0 (by decide) (by decide) z) (by decide)) h5
          have hfr := hfr.up h0 mK_i eσ_44
          refine lv_aload_n C.1 C.2.1 dX2_addBoard_71 rfl (lv_at hl 0 rfl) ?_
          refine gf_X2_9_8 C hS he_45 rfl dX2_addBoard_72 ?_
          refine ti_const C.1 C.2.1 dX2_addBoard_75 ?_
          refine lv_aload_n C.1 C.2.1 dX2_addBoard_76 rfl (lv_at hl 0 rfl) ?_
          refine gf_X2_39_8 C hS he_45 rfl dX2_addBoard_77 ?_
          refine ti_imul C.1 C.2.1 dX2_addBoard_80 ?_
          refine ti_const C.1 C.2.1 dX2_addBoard_81 ?_
          refine ti_iadd C.1 C.2.1 dX2_addBoard_82 ?_
          refine lv_iload_n C.1 C.2.1 dX2_addBoard_83 rfl (lv_at hl 2 rfl) ?_
          refine h_iastZ C hS he_46 (by omega) (by omega) (by omega) dX2_addBoard_84 (fun H locs hS => ?_)
          obtain ⟨σ_52, eσ_52⟩ : ∃ z, z = va_up σ_44 (ad 0) (some (oI (X.2.2.1 0) 30 (zA (zup (zup (M1.2 0) ((3 * M1.1 1)) (ln)) (((3 * M1.1 1) + 1)) (w))))) := ⟨_, rfl⟩
          rw [← eσ_52] at hS
          have he_53 := up_kp eσ_52 (tl_neA he_45 he_46) he_45
          have he_54 : σ_52 (ad 0) = some (oI (X.2.2.1 0) 30 (zA (zup (zup (M1.2 0) ((3 * M1.1 1)) (ln)) (((3 * M1.1 1) + 1)) (w)))) := by rw [eσ_52]; exact up_s
          have he_55 := up_kp eσ_52 (fun z => absurd (hd 1 0 (by decide) (by decide) z) (by decide)) he_47
          have he_56 := up_kp eσ_52 (fun z => absurd (hd 2 0 (by decide) (by decide) z) (by decide)) he_48
          have he_57 := up_kp eσ_52 (fun z => absurd (hd 3 0 (by decide) (by decide) z) (by decide)) he_49
          have he_58 := up_kp eσ_52 (fun z => absurd (hd 4 0 (by decide) (by decide) z) (by decide)) he_50
          have he_59 := up_kp eσ_52 (fun z => absurd (hd 5 0 (by decide) (by decide) z) (by decide)) he_51
          have hfr := hfr.up he_46 mK_i eσ_52
          refine lv_aload_n C.1 C.2.1 dX2_addBoard_85 rfl (lv_at hl 0 rfl) ?_
          refine gf_X2_9_8 C hS he_53 rfl dX2_addBoard_86 ?_
          refine ti_const C.1 C.2.1 dX2_addBoard_89 ?_
          refine lv_aload_n C.1 C.2.1 dX2_addBoard_90 rfl (lv_at hl 0 rfl) ?_
          refine gf_X2_39_8 C hS he_53 rfl dX2_addBoard_91 ?_
          refine ti_imul C.1 C.2.1 dX2_addBoard_94 ?_
          refine ti_const C.1 C.2.1 dX2_addBoard_95 ?_
          refine ti_iadd C.1 C.2.1 dX2_addBoard_96 ?_
          refine lv_iload_n C.1 C.2.1 dX2_addBoard_97 rfl (lv_at hl 3 rfl) ?_
          refine h_iastZ C hS he_54 (by omega) (by omega) (by omega) dX2_addBoard_98 (fun H locs hS => ?_)
          obtain ⟨σ_60, eσ_60⟩ : ∃ z, z = va_up σ_52 (ad 0) (some (oI (X.2.2.1 0) 30 (zA (zup (zup (zup (M1.2 0) ((3 * M1.1 1)) (ln)) (((3 * M1.1 1) + 1)) (w)) (((3 * M1.1 1) + 2)) (g))))) := ⟨_, rfl⟩
          rw [← eσ_60] at hS
          have he_61 := up_kp eσ_60 (tl_neA he_53 he_54) he_53
          have he_62 : σ_60 (ad 0) = some (oI (X.2.2.1 0) 30 (zA (zup (zup (zup (M1.2 0) ((3 * M1.1 1)) (ln)) (((3 * M1.1 1) + 1)) (w)) (((3 * M1.1 1) + 2)) (g)))) := by rw [eσ_60]; exact up_s
          have he_63 := up_kp eσ_60 (fun z => absurd (hd 1 0 (by decide) (by decide) z) (by decide)) he_55
          have he_64 := up_kp eσ_60 (fun z => absurd (hd 2 0 (by decide) (by decide) z) (by decide)) he_56
          have he_65 := up_kp eσ_60 (fun z => absurd (hd 3 0 (by decide) (by decide) z) (by decide)) he_57
          have he_66 := up_kp eσ_60 (fun z => absurd (hd 4 0 (by decide) (by decide) z) (by decide)) he_58
          have he_67 := up_kp eσ_60 (fun z => absurd (hd 5 0 (by decide) (by decide) z) (by decide)) he_59
          have hfr := hfr.up he_54 mK_i eσ_60
          refine lv_aload_n C.1 C.2.1 dX2_addBoard_99 rfl (lv_at hl 0 rfl) ?_
          refine lv_dup C.1 C.2.1 dX2_addBoard_100 rfl ?_
          refine gf_X2_39_8 C hS he_61 rfl dX2_addBoard_101 ?_
          refine ti_const C.1 C.2.1 dX2_addBoard_104 ?_
          refine ti_iadd C.1 C.2.1 dX2_addBoard_105 ?_
          refine gp_X2_39_8 C hS he_61 rfl rfl (Nat.le_of_ble_eq_true rfl) dX2_addBoard_106 (fun H locs hS => ?_)
          obtain ⟨σ_68, eσ_68⟩ : ∃ z, z = va_up σ_60 (mo) (some (oO 8 [.int (iI (M1.1 0)), .int (iI ((M1.1 1 + 1))), .ref (ad 0), .int (iI (M1.1 2)), .ref (ad 1), .int (iI (M1.1 3)), .ref (ad 2), .ref (ad 3), .int (iI (M1.1 4)), .int (iI (M1.1 5)), .int (iI (M1.1 6)), .ref (ad 4), .ref (ad 5), .int (iI (M1.1 7)), .int (iI (M1.1 8))])) := ⟨_, rfl⟩
          have hS : tl_S X s σ_68 H locs := by rw [eσ_68]; exact hS
          have he_69 : σ_68 (mo) = some (oO 8 [.int (iI (M1.1 0)), .int (iI ((M1.1 1 + 1))), .ref (ad 0), .int (iI (M1.1 2)), .ref (ad 1), .int (iI (M1.1 3)), .ref (ad 2), .ref (ad 3), .int (iI (M1.1 4)), .int (iI (M1.1 5)), .int (iI (M1.1 6)), .ref (ad 4), .ref (ad 5), .int (iI (M1.1 7)), .int (iI (M1.1 8))]) := by rw [eσ_68]; exact up_s
          have he_70 := up_kp eσ_68 (Ne.symm (tl_neA he_61 he_62)) he_62
          have he_71 := up_kp eσ_68 (Ne.symm (tl_neA he_61 he_63)) he_63
          have he_72 := up_kp eσ_68 (Ne.symm (tl_neA he_61 he_64)) he_64
          have he_73 := up_kp eσ_68 (Ne.symm (tl_neA he_61 he_65)) he_65
          have he_74 := up_kp eσ_68 (Ne.symm (tl_neA he_61 he_66)) he_66
          have he_75 := up_kp eσ_68 (Ne.symm (tl_neA he_61 he_67)) he_67
          have hfr := hfr.up he_61 mK_o eσ_68
          refine lv_aload_n C.1 C.2.1 dX2_addBoard_109 rfl (lv_at hl 0 rfl) ?_
          refine gf_X2_39_8 C hS he_69 rfl dX2_addBoard_110 ?_
          refine ti_const C.1 C.2.1 dX2_addBoard_113 ?_
          refine ti_isub C.1 C.2.1 dX2_addBoard_114 ?_
          exact r_i C hr hlk hS (by rw [show mAddBoard M1 ln w g = (((M1.1 1 + 1) - 1), (mset (aset (aset (aset M1 0 ((3 * M1.1 1)) (ln)) 0 (((3 * M1.1 1) + 1)) (w)) 0 (((3 * M1.1 1) + 2)) (g)) 1 ((M1.1 1 + 1)))) from by (unfold mAddBoard; (repeat (first | rw [if_pos (by omega)] | rw [if_neg (by omega)])); try rfl)]; exact ⟨rfl, ⟨he_69, he_70, he_71, he_72, he_73, he_74, he_75, hd⟩, hfr⟩) dX2_addBoard_115
        · skip
          refine lv_aload_n C.1 C.2.1 dX2_addBoard_53 rfl (lv_at hl 0 rfl) ?_
          refine ti_const C.1 C.2.1 dX2_addBoard_54 ?_
          refine tl_ci (t_V (n := 1) (ci := 8) C hml hS (m2_fail l X σ_1 mo ad M1 ⟨hm, h0, h1, h2, h3, h4, h5, hd⟩ (2)) q1785 q1787 qs21 q53 q1788 (by decide +kernel) hm rfl rfl hl.1 rfl (Nat.le_of_ble_eq_true rfl) dX2_addBoard_55 ⟨Nat.le_of_ble_eq_true rfl, Nat.le_of_ble_eq_true rfl⟩ ⟨Nat.le_refl _, Nat.le_refl _⟩) hS (fun r_76 σ_78 H locs hP_77 hS => ?_)
          obtain ⟨rfl, hM_79, hfr9⟩ := hP_77
          have hfr := hfr.trans hfr9
          obtain ⟨hm_80, hm_81, hm_82, hm_83, hm_84, hm_85, hm_86, hd⟩ := id hM_79
          exact r_i C hr hlk hS (by rw [show mAddBoard M1 ln w g = (0, (mset M1 0 (2))) from by (unfold mAddBoard; (repeat (first | rw [if_pos (by omega)] | rw [if_neg (by omega)])); try rfl)]; exact ⟨rfl, ⟨hm_80, hm_81, hm_82, hm_83, hm_84, hm_85, hm_86, hd⟩, hfr⟩) dX2_addBoard_58
      · skip
        refine lv_aload_n C.1 C.2.1 dX2_addBoard_38 rfl (lv_at hl 0 rfl) ?_
        refine ti_const C.1 C.2.1 dX2_addBoard_39 ?_
        refine tl_ci (t_V (n := 1) (ci := 8) C hml hS (m2_fail l X σ_1 mo ad M1 ⟨hm, h0, h1, h2, h3, h4, h5, hd⟩ (1)) q1785 q1787 qs21 q53 q1788 (by decide +kernel) hm rfl rfl hl.1 rfl (Nat.le_of_ble_eq_true rfl) dX2_addBoard_40 ⟨Nat.le_of_ble_eq_true rfl, Nat.le_of_ble_eq_true rfl⟩ ⟨Nat.le_refl _, Nat.le_refl _⟩) hS (fun r_87 σ_89 H locs hP_88 hS => ?_)
        obtain ⟨rfl, hM_90, hfr9⟩ := hP_88
        have hfr := hfr.trans hfr9
        obtain ⟨hm_91, hm_92, hm_93, hm_94, hm_95, hm_96, hm_97, hd⟩ := id hM_90
        exact r_i C hr hlk hS (by rw [show mAddBoard M1 ln w g = (0, (mset M1 0 (1))) from by (unfold mAddBoard; (repeat (first | rw [if_pos (by omega)] | rw [if_neg (by omega)])); try rfl)]; exact ⟨rfl, ⟨hm_91, hm_92, hm_93, hm_94, hm_95, hm_96, hm_97, hd⟩, hfr⟩) dX2_addBoard_43

theorem gf_X2_19_8 {p : Program} {l : Launch} {e : Env} {R : Room} {s : State} {m : MethodId} {args : Array Value} {below : List Frame} {meth : Method} {c : Code} {H : Heap} {locs : List Loc} {cells slots : Nat} {Q : State → Prop} {cc : ByteArray} {pc : Nat} {ls : Array Slot} {rest : List Value} {X : tl_X} {σ : tl_H} {a : Nat} {fs : List Value} {v : Value} (C : tl_C X p s m args c cc RX2) (hS : tl_S X s σ H locs) (he : σ a = some (oO 8 fs)) (hv : fs[7]? = some v) (hdg : decode cc pc = .ok (.getfield 19, 3)) (kk : W p l e R s m args below meth c H locs cells slots Q (F0 m (pc + 3) ls (v :: rest))) : W p l e R s m args below meth c H locs cells slots Q (F0 m pc ls (.ref a :: rest)) :=
  h_get (ref := "TimberListModel") C hS in_X2 rfl 7 (by decide) q1734 (fun _ h => h) he hv hdg kk
theorem gp_X2_46_8 {p : Program} {l : Launch} {e : Env} {R : Room} {s : State} {m : MethodId} {args : Array Value} {below : List Frame} {meth : Method} {c : Code} {H : Heap} {locs : List Loc} {cells slots : Nat} {Q : State → Prop} {cc : ByteArray} {pc : Nat} {ls : Array Slot} {rest : List Value} {X : tl_X} {σ : tl_H} {a : Nat} {fs : List Value} {v : Value} (C : tl_C X p s m args c cc RX2) (hS : tl_S X s σ H locs) (he : σ a = some (oO 8 fs)) (hn : narrow (tyX2 5) v = v) (hfit : fits (tyX2 5) v = true) (hl : 5 < fs.length) (hdg : decode cc pc = .ok (.putfield 46, 3)) (kk : ∀ (H1 : Heap) (locs1 : List Loc), tl_S X s (va_up σ a (some (oO 8 (fs.set 5 v)))) H1 locs1 → W p l e R s m args below meth c H1 locs1 cells slots Q (F0 m (pc + 3) ls rest)) : W p l e R s m args below meth c H locs cells slots Q (F0 m pc ls (v :: .ref a :: rest)) :=
  h_put (ref := "TimberListModel") C hS in_X2 tyX2 tyX2_ok nmX2 rfl 5 (by decide) q1732 (fun _ h => h) rfl (by decide) he hn hfit hl hdg kk
set_option maxHeartbeats 4000000 in
theorem m2_addPart (l : Launch) (X : tl_X) (σ : tl_H) (mo : Nat) (ad : Nat → Nat) (M : mS) (hM : MD X σ mo ad M) (hI : mI M) (ln w g cn j : Int) (hr : -2147483648 ≤ ln ∧ ln ≤ 2147483647 ∧ -2147483648 ≤ w ∧ w ≤ 2147483647 ∧ -2147483648 ≤ g ∧ g ≤ 2147483647 ∧ -2147483648 ≤ cn ∧ cn ≤ 2147483647) (hj : j = 0 ∨ j = 1) : tl_Met l X yX2_addPart cX2_addPart 6 ((Option.some FieldType.int)) 3 (0) (0) [.ref (mo), .int (iI (ln)), .int (iI (w)), .int (iI (g)), .int (iI (cn)), .int (iI (j))] σ (tl_Qi X (fun r σ' => r = iI (mAddPart (mset M 0 0) ln w g cn j).1 ∧ MD X σ' mo ad (mAddPart (mset M 0 0) ln w g cn j).2 ∧ mFr σ σ')) := by
  obtain ⟨M1, eM1⟩ : ∃ z, z = mset M 0 0 := ⟨_, rfl⟩
  rw [← eM1]
  refine tl_start (by decide) (Nat.le_of_ble_eq_true rfl) (fun p e s m below meth c ls C hr hml hlk hnm hS hl => ?_)
  have hl : lv_has ls 6 [(0, .ref (mo)), (1, .int (iI (ln))), (2, .int (iI (w))), (3, .int (iI (g))), (4, .int (iI (cn))), (5, .int (iI (j)))] := hl
  obtain ⟨hm, h0, h1, h2, h3, h4, h5, hd⟩ := id hM
  obtain ⟨hN, hB, hPt, hJ, hA, hWn⟩ := id hI
  have hfr : mFr σ σ := mFr.rf
  refine lv_aload_n C.1 C.2.1 dX2_addPart_0 rfl (lv_at hl 0 rfl) ?_
  refine ti_const C.1 C.2.1 dX2_addPart_1 ?_
  refine gp_X2_36_8 C hS hm rfl rfl (Nat.le_of_ble_eq_true rfl) dX2_addPart_2 (fun H locs hS => ?_)
  obtain ⟨σ_1, eσ_1⟩ : ∃ z, z = va_up σ (mo) (some (oO 8 [.int (iI (0)), .int (iI (M.1 1)), .ref (ad 0), .int (iI (M.1 2)), .ref (ad 1), .int (iI (M.1 3)), .ref (ad 2), .ref (ad 3), .int (iI (M.1 4)), .int (iI (M.1 5)), .int (iI (M.1 6)), .ref (ad 4), .ref (ad 5), .int (iI (M.1 7)), .int (iI (M.1 8))])) := ⟨_, rfl⟩
  have hS : tl_S X s σ_1 H locs := by rw [eσ_1]; exact hS
  have he_2 : σ_1 (mo) = some (oO 8 [.int (iI (0)), .int (iI (M.1 1)), .ref (ad 0), .int (iI (M.1 2)), .ref (ad 1), .int (iI (M.1 3)), .ref (ad 2), .ref (ad 3), .int (iI (M.1 4)), .int (iI (M.1 5)), .int (iI (M.1 6)), .ref (ad 4), .ref (ad 5), .int (iI (M.1 7)), .int (iI (M.1 8))]) := by rw [eσ_1]; exact up_s
  have he_3 := up_kp eσ_1 (Ne.symm (tl_neA hm h0)) h0
  have he_4 := up_kp eσ_1 (Ne.symm (tl_neA hm h1)) h1
  have he_5 := up_kp eσ_1 (Ne.symm (tl_neA hm h2)) h2
  have he_6 := up_kp eσ_1 (Ne.symm (tl_neA hm h3)) h3
  have he_7 := up_kp eσ_1 (Ne.symm (tl_neA hm h4)) h4
  have he_8 := up_kp eσ_1 (Ne.symm (tl_neA hm h5)) h5
  have hfr := hfr.up hm mK_o eσ_1
  have hM1 : MD X σ_1 mo ad M1 := by rw [eM1]; exact ⟨he_2, he_3, he_4, he_5, he_6, he_7, he_8, hd⟩
  have hI1 : mI M1 := by rw [eM1]; exact hI.t0 0 (by decide)
  obtain ⟨hm, h0, h1, h2, h3, h4, h5, hd⟩ := id hM1
  obtain ⟨hN, hB, hPt, hJ, hA, hWn⟩ := id hI1
  refine lv_iload_n C.1 C.2.1 dX2_addPart_5 rfl (lv_at hl 1 rfl) ?_
  refine ti_bipush C.1 C.2.1 dX2_addPart_6 (by decide) ?_
  refine ti_sipush C.1 C.2.1 dX2_addPart_8 (by decide) ?_
  refine tl_ci (t_S (n := 3) C hml hS (m2_isIn l X σ_1 (ln) (20) (3000) (by omega)) q1782 q1783 q53 q1784 (by decide +kernel) rfl hl.1 rfl (Nat.le_of_ble_eq_true rfl) dX2_addPart_11 ⟨Nat.le_of_ble_eq_true rfl, Nat.le_of_ble_eq_true rfl⟩ ⟨Nat.le_refl _, Nat.le_refl _⟩) hS (fun r_9 σ_11 H locs hP_10 hS => ?_)
  obtain ⟨rfl, rfl⟩ := hP_10
  refine ti_tb_eq (tgt := 49) C.1 C.2.1 dX2_addPart_14 (by decide) (fun hc_12 => ?_) (fun hc_12 => ?_)
  · skip
    refine lv_aload_n C.1 C.2.1 dX2_addPart_49 rfl (lv_at hl 0 rfl) ?_
    refine ti_const C.1 C.2.1 dX2_addPart_50 ?_
    refine tl_ci (t_V (n := 1) (ci := 8) C hml hS (m2_fail l X σ_1 mo ad M1 ⟨hm, h0, h1, h2, h3, h4, h5, hd⟩ (1)) q1785 q1787 qs21 q53 q1788 (by decide +kernel) hm rfl rfl hl.1 rfl (Nat.le_of_ble_eq_true rfl) dX2_addPart_51 ⟨Nat.le_of_ble_eq_true rfl, Nat.le_of_ble_eq_true rfl⟩ ⟨Nat.le_refl _, Nat.le_refl _⟩) hS (fun r_13 σ_15 H locs hP_14 hS => ?_)
    obtain ⟨rfl, hM_16, hfr9⟩ := hP_14
    have hfr := hfr.trans hfr9
    obtain ⟨hm_17, hm_18, hm_19, hm_20, hm_21, hm_22, hm_23, hd⟩ := id hM_16
    exact r_i C hr hlk hS (by rw [show mAddPart M1 ln w g cn j = (0, (mset M1 0 (1))) from by (unfold mAddPart; (repeat (first | rw [if_pos (by omega)] | rw [if_neg (by omega)])); try rfl)]; exact ⟨rfl, ⟨hm_17, hm_18, hm_19, hm_20, hm_21, hm_22, hm_23, hd⟩, hfr⟩) dX2_addPart_54
  · skip
    refine lv_iload_n C.1 C.2.1 dX2_addPart_17 rfl (lv_at hl 2 rfl) ?_
    refine ti_bipush C.1 C.2.1 dX2_addPart_18 (by decide) ?_
    refine ti_sipush C.1 C.2.1 dX2_addPart_20 (by decide) ?_
    refine tl_ci (t_S (n := 3) C hml hS (m2_isIn l X σ_1 (w) (10) (400) (by omega)) q1782 q1783 q53 q1784 (by decide +kernel) rfl hl.1 rfl (Nat.le_of_ble_eq_true rfl) dX2_addPart_23 ⟨Nat.le_of_ble_eq_true rfl, Nat.le_of_ble_eq_true rfl⟩ ⟨Nat.le_refl _, Nat.le_refl _⟩) hS (fun r_24 σ_26 H locs hP_25 hS => ?_)
    obtain ⟨rfl, rfl⟩ := hP_25
    refine ti_tb_eq (tgt := 49) C.1 C.2.1 dX2_addPart_26 (by decide) (fun hc_27 => ?_) (fun hc_27 => ?_)
    · skip
      refine lv_aload_n C.1 C.2.1 dX2_addPart_49 rfl (lv_at hl 0 rfl) ?_
      refine ti_const C.1 C.2.1 dX2_addPart_50 ?_
      refine tl_ci (t_V (n := 1) (ci := 8) C hml hS (m2_fail l X σ_1 mo ad M1 ⟨hm, h0, h1, h2, h3, h4, h5, hd⟩ (1)) q1785 q1787 qs21 q53 q1788 (by decide +kernel) hm rfl rfl hl.1 rfl (Nat.le_of_ble_eq_true rfl) dX2_addPart_51 ⟨Nat.le_of_ble_eq_true rfl, Nat.le_of_ble_eq_true rfl⟩ ⟨Nat.le_refl _, Nat.le_refl _⟩) hS (fun r_28 σ_30 H locs hP_29 hS => ?_)
      obtain ⟨rfl, hM_31, hfr9⟩ := hP_29
      have hfr := hfr.trans hfr9
      obtain ⟨hm_32, hm_33, hm_34, hm_35, hm_36, hm_37, hm_38, hd⟩ := id hM_31
      exact r_i C hr hlk hS (by rw [show mAddPart M1 ln w g cn j = (0, (mset M1 0 (1))) from by (unfold mAddPart; (repeat (first | rw [if_pos (by omega)] | rw [if_neg (by omega)])); try rfl)]; exact ⟨rfl, ⟨hm_32, hm_33, hm_34, hm_35, hm_36, hm_37, hm_38, hd⟩, hfr⟩) dX2_addPart_54
    · skip
      refine lv_iload_n C.1 C.2.1 dX2_addPart_29 rfl (lv_at hl 3 rfl) ?_
      refine ti_const C.1 C.2.1 dX2_addPart_30 ?_
      refine ti_const C.1 C.2.1 dX2_addPart_31 ?_
      refine tl_ci (t_S (n := 3) C hml hS (m2_isIn l X σ_1 (g) (0) (3) (by omega)) q1782 q1783 q53 q1784 (by decide +kernel) rfl hl.1 rfl (Nat.le_of_ble_eq_true rfl) dX2_addPart_32 ⟨Nat.le_of_ble_eq_true rfl, Nat.le_of_ble_eq_true rfl⟩ ⟨Nat.le_refl _, Nat.le_refl _⟩) hS (fun r_39 σ_41 H locs hP_40 hS => ?_)
      obtain ⟨rfl, rfl⟩ := hP_40
      refine ti_tb_eq (tgt := 49) C.1 C.2.1 dX2_addPart_35 (by decide) (fun hc_42 => ?_) (fun hc_42 => ?_)
      · skip
        refine lv_aload_n C.1 C.2.1 dX2_addPart_49 rfl (lv_at hl 0 rfl) ?_
        refine ti_const C.1 C.2.1 dX2_addPart_50 ?_
        refine tl_ci (t_V (n := 1) (ci := 8) C hml hS (m2_fail l X σ_1 mo ad M1 ⟨hm, h0, h1, h2, h3, h4, h5, hd⟩ (1)) q1785 q1787 qs21 q53 q1788 (by decide +kernel) hm rfl rfl hl.1 rfl (Nat.le_of_ble_eq_true rfl) dX2_addPart_51 ⟨Nat.le_of_ble_eq_true rfl, Nat.le_of_ble_eq_true rfl⟩ ⟨Nat.le_refl _, Nat.le_refl _⟩) hS (fun r_43 σ_45 H locs hP_44 hS => ?_)
        obtain ⟨rfl, hM_46, hfr9⟩ := hP_44
        have hfr := hfr.trans hfr9
        obtain ⟨hm_47, hm_48, hm_49, hm_50, hm_51, hm_52, hm_53, hd⟩ := id hM_46
        exact r_i C hr hlk hS (by rw [show mAddPart M1 ln w g cn j = (0, (mset M1 0 (1))) from by (unfold mAddPart; (repeat (first | rw [if_pos (by omega)] | rw [if_neg (by omega)])); try rfl)]; exact ⟨rfl, ⟨hm_47, hm_48, hm_49, hm_50, hm_51, hm_52, hm_53, hd⟩, hfr⟩) dX2_addPart_54
      · skip
        refine lv_iload C.1 C.2.1 dX2_addPart_38 (lv_at hl 4 rfl) ?_
        refine ti_const C.1 C.2.1 dX2_addPart_40 ?_
        refine ti_bipush C.1 C.2.1 dX2_addPart_41 (by decide) ?_
        refine tl_ci (t_S (n := 3) C hml hS (m2_isIn l X σ_1 (cn) (1) (9) (by omega)) q1782 q1783 q53 q1784 (by decide +kernel) rfl hl.1 rfl (Nat.le_of_ble_eq_true rfl) dX2_addPart_43 ⟨Nat.le_of_ble_eq_true rfl, Nat.le_of_ble_eq_true rfl⟩ ⟨Nat.le_refl _, Nat.le_refl _⟩) hS (fun r_54 σ_56 H locs hP_55 hS => ?_)
        obtain ⟨rfl, rfl⟩ := hP_55
        refine ti_tb_ne (tgt := 55) C.1 C.2.1 dX2_addPart_46 (by decide) (fun hc_57 => ?_) (fun hc_57 => ?_)
        · skip
          refine lv_aload_n C.1 C.2.1 dX2_addPart_55 rfl (lv_at hl 0 rfl) ?_
          refine gf_X2_46_8 C hS hm rfl dX2_addPart_56 ?_
          refine ti_bipush C.1 C.2.1 dX2_addPart_59 (by decide) ?_
          refine ti_icmp_ne (tgt := 70) C.1 C.2.1 dX2_addPart_61 (by decide) ⟨by omega, by omega⟩ ⟨by decide, by decide⟩ (fun hc_58 => ?_) (fun hc_58 => ?_)
          · skip
            refine lv_aload_n C.1 C.2.1 dX2_addPart_70 rfl (lv_at hl 0 rfl) ?_
            refine gf_X2_16_8 C hS hm rfl dX2_addPart_71 ?_
            refine ti_const C.1 C.2.1 dX2_addPart_74 ?_
            refine lv_aload_n C.1 C.2.1 dX2_addPart_75 rfl (lv_at hl 0 rfl) ?_
            refine gf_X2_46_8 C hS hm rfl dX2_addPart_76 ?_
            refine ti_imul C.1 C.2.1 dX2_addPart_79 ?_
            refine lv_iload_n C.1 C.2.1 dX2_addPart_80 rfl (lv_at hl 1 rfl) ?_
            refine h_iastZ C hS h2 (by omega) (by omega) (by omega) dX2_addPart_81 (fun H locs hS => ?_)
            obtain ⟨σ_59, eσ_59⟩ : ∃ z, z = va_up σ_1 (ad 2) (some (oI (X.2.2.1 0) 48 (zA (zup (M1.2 2) ((4 * M1.1 3)) (ln))))) := ⟨_, rfl⟩
            rw [← eσ_59] at hS
            have he_60 := up_kp eσ_59 (tl_neA hm h2) hm
            have he_61 := up_kp eσ_59 (fun z => absurd (hd 0 2 (by decide) (by decide) z) (by decide)) h0
            have he_62 := up_kp eσ_59 (fun z => absurd (hd 1 2 (by decide) (by decide) z) (by decide)) h1
            have he_63 : σ_59 (ad 2) = some (oI (X.2.2.1 0) 48 (zA (zup (M1.2 2) ((4 * M1.1 3)) (ln)))) := by rw [eσ_59]; exact up_s
            have he_64 := up_kp eσ_59 (fun z => absurd (hd 3 2 (by decide) (by decide) z) (by decide)) h3
            have he_65 := up_kp eσ_59 (fun z => absurd (hd 4 2 (by decide) (by decide) z) (by decide)) h4
            have he_66 := up_kp eσ_59 (fun z => absurd (hd 5 2 (by decide) (by decide) z) (by decide)) h5
            have hfr := hfr.up h2 mK_i eσ_59
            refine lv_aload_n C.1 C.2.1 dX2_addPart_82 rfl (lv_at hl 0 rfl) ?_
            refine gf_X2_16_8 C hS he_60 rfl dX2_addPart_83 ?_
            refine ti_const C.1 C.2.1 dX2_addPart_86 ?_
            refine lv_aload_n C.1 C.2.1 dX2_addPart_87 rfl (lv_at hl 0 rfl) ?_
            refine gf_X2_46_8 C hS he_60 rfl dX2_addPart_88 ?_
            refine ti_imul C.1 C.2.1 dX2_addPart_91 ?_
            refine ti_const C.1 C.2.1 dX2_addPart_92 ?_
            refine ti_iadd C.1 C.2.1 dX2_addPart_93 ?_
            refine lv_iload_n C.1 C.2.1 dX2_addPart_94 rfl (lv_at hl 2 rfl) ?_
            refine h_iastZ C hS he_63 (by omega) (by omega) (by omega) dX2_addPart_95 (fun H locs hS => ?_)
            obtain ⟨σ_67, eσ_67⟩ : ∃ z, z = va_up σ_59 (ad 2) (some (oI (X.2.2.1 0) 48 (zA (zup (zup (M1.2 2) ((4 * M1.1 3)) (ln)) (((4 * M1.1 3) + 1)) (w))))) := ⟨_, rfl⟩
            rw [← eσ_67] at hS
            have he_68 := up_kp eσ_67 (tl_neA he_60 he_63) he_60
            have he_69 := up_kp eσ_67 (fun z => absurd (hd 0 2 (by decide) (by decide) z) (by decide)) he_61
            have he_70 := up_kp eσ_67 (fun z => absurd (hd 1 2 (by decide) (by decide) z) (by decide)) he_62
            have he_71 : σ_67 (ad 2) = some (oI (X.2.2.1 0) 48 (zA (zup (zup (M1.2 2) ((4 * M1.1 3)) (ln)) (((4 * M1.1 3) + 1)) (w)))) := by rw [eσ_67]; exact up_s
            have he_72 := up_kp eσ_67 (fun z => absurd (hd 3 2 (by decide) (by decide) z) (by decide)) he_64
            have he_73 := up_kp eσ_67 (fun z => absurd (hd 4 2 (by decide) (by decide) z) (by decide)) he_65
            have he_74 := up_kp eσ_67 (fun z => absurd (hd 5 2 (by decide) (by decide) z) (by decide)) he_66
            have hfr := hfr.up he_63 mK_i eσ_67
            refine lv_aload_n C.1 C.2.1 dX2_addPart_96 rfl (lv_at hl 0 rfl) ?_
            refine gf_X2_16_8 C hS he_68 rfl dX2_addPart_97 ?_
            refine ti_const C.1 C.2.1 dX2_addPart_100 ?_
            refine lv_aload_n C.1 C.2.1 dX2_addPart_101 rfl (lv_at hl 0 rfl) ?_
            refine gf_X2_46_8 C hS he_68 rfl dX2_addPart_102 ?_
            refine ti_imul C.1 C.2.1 dX2_addPart_105 ?_
            refine ti_const C.1 C.2.1 dX2_addPart_106 ?_
            refine ti_iadd C.1 C.2.1 dX2_addPart_107 ?_
            refine lv_iload_n C.1 C.2.1 dX2_addPart_108 rfl (lv_at hl 3 rfl) ?_
            refine h_iastZ C hS he_71 (by omega) (by omega) (by omega) dX2_addPart_109 (fun H locs hS => ?_)
            obtain ⟨σ_75, eσ_75⟩ : ∃ z, z = va_up σ_67 (ad 2) (some (oI (X.2.2.1 0) 48 (zA (zup (zup (zup (M1.2 2) ((4 * M1.1 3)) (ln)) (((4 * M1.1 3) + 1)) (w)) (((4 * M1.1 3) + 2)) (g))))) := ⟨_, rfl⟩
            rw [← eσ_75] at hS
            have he_76 := up_kp eσ_75 (tl_neA he_68 he_71) he_68
            have he_77 := up_kp eσ_75 (fun z => absurd (hd 0 2 (by decide) (by decide) z) (by decide)) he_69
            have he_78 := up_kp eσ_75 (fun z => absurd (hd 1 2 (by decide) (by decide) z) (by decide)) he_70
            have he_79 : σ_75 (ad 2) = some (oI (X.2.2.1 0) 48 (zA (zup (zup (zup (M1.2 2) ((4 * M1.1 3)) (ln)) (((4 * M1.1 3) + 1)) (w)) (((4 * M1.1 3) + 2)) (g)))) := by rw [eσ_75]; exact up_s
            have he_80 := up_kp eσ_75 (fun z => absurd (hd 3 2 (by decide) (by decide) z) (by decide)) he_72
            have he_81 := up_kp eσ_75 (fun z => absurd (hd 4 2 (by decide) (by decide) z) (by decide)) he_73
            have he_82 := up_kp eσ_75 (fun z => absurd (hd 5 2 (by decide) (by decide) z) (by decide)) he_74
            have hfr := hfr.up he_71 mK_i eσ_75
            refine lv_aload_n C.1 C.2.1 dX2_addPart_110 rfl (lv_at hl 0 rfl) ?_
            refine gf_X2_16_8 C hS he_76 rfl dX2_addPart_111 ?_
            refine ti_const C.1 C.2.1 dX2_addPart_114 ?_
            refine lv_aload_n C.1 C.2.1 dX2_addPart_115 rfl (lv_at hl 0 rfl) ?_
            refine gf_X2_46_8 C hS he_76 rfl dX2_addPart_116 ?_
            refine ti_imul C.1 C.2.1 dX2_addPart_119 ?_
            refine ti_const C.1 C.2.1 dX2_addPart_120 ?_
            refine ti_iadd C.1 C.2.1 dX2_addPart_121 ?_
            refine lv_iload C.1 C.2.1 dX2_addPart_122 (lv_at hl 4 rfl) ?_
            refine h_iastZ C hS he_79 (by omega) (by omega) (by omega) dX2_addPart_124 (fun H locs hS => ?_)
            obtain ⟨σ_83, eσ_83⟩ : ∃ z, z = va_up σ_75 (ad 2) (some (oI (X.2.2.1 0) 48 (zA (zup (zup (zup (zup (M1.2 2) ((4 * M1.1 3)) (ln)) (((4 * M1.1 3) + 1)) (w)) (((4 * M1.1 3) + 2)) (g)) (((4 * M1.1 3) + 3)) (cn))))) := ⟨_, rfl⟩
            rw [← eσ_83] at hS
            have he_84 := up_kp eσ_83 (tl_neA he_76 he_79) he_76
            have he_85 := up_kp eσ_83 (fun z => absurd (hd 0 2 (by decide) (by decide) z) (by decide)) he_77
            have he_86 := up_kp eσ_83 (fun z => absurd (hd 1 2 (by decide) (by decide) z) (by decide)) he_78
            have he_87 : σ_83 (ad 2) = some (oI (X.2.2.1 0) 48 (zA (zup (zup (zup (zup (M1.2 2) ((4 * M1.1 3)) (ln)) (((4 * M1.1 3) + 1)) (w)) (((4 * M1.1 3) + 2)) (g)) (((4 * M1.1 3) + 3)) (cn)))) := by rw [eσ_83]; exact up_s
            have he_88 := up_kp eσ_83 (fun z => absurd (hd 3 2 (by decide) (by decide) z) (by decide)) he_80
            have he_89 := up_kp eσ_83 (fun z => absurd (hd 4 2 (by decide) (by decide) z) (by decide)) he_81
            have he_90 := up_kp eσ_83 (fun z => absurd (hd 5 2 (by decide) (by decide) z) (by decide)) he_82
            have hfr := hfr.up he_79 mK_i eσ_83
            refine lv_aload_n C.1 C.2.1 dX2_addPart_125 rfl (lv_at hl 0 rfl) ?_
            refine gf_X2_19_8 C hS he_84 rfl dX2_addPart_126 ?_
            refine lv_aload_n C.1 C.2.1 dX2_addPart_129 rfl (lv_at hl 0 rfl) ?_
            refine gf_X2_46_8 C hS he_84 rfl dX2_addPart_130 ?_
            refine lv_iload C.1 C.2.1 dX2_addPart_133 (lv_at hl 5 rfl) ?_
            refine h_zastZ C hS he_88 (by omega) (by omega) (by omega) (by omega) dX2_addPart_135 (fun H locs hS => ?_)
            obtain ⟨σ_91, eσ_91⟩ : ∃ z, z = va_up σ_83 (ad 3) (some (oI (X.2.2.1 1) 12 (zA (zup (M1.2 3) (M1.1 3) (j))))) := ⟨_, rfl⟩
            rw [← eσ_91] at hS
            have he_92 := up_kp eσ_91 (tl_neA he_84 he_88) he_84
            have he_93 := up_kp eσ_91 (fun z => absurd (hd 0 3 (by decide) (by decide) z) (by decide)) he_85
            have he_94 := up_kp eσ_91 (fun z => absurd (hd 1 3 (by decide) (by decide) z) (by decide)) he_86
            have he_95 := up_kp eσ_91 (fun z => absurd (hd 2 3 (by decide) (by decide) z) (by decide)) he_87
            have he_96 : σ_91 (ad 3) = some (oI (X.2.2.1 1) 12 (zA (zup (M1.2 3) (M1.1 3) (j)))) := by rw [eσ_91]; exact up_s
            have he_97 := up_kp eσ_91 (fun z => absurd (hd 4 3 (by decide) (by decide) z) (by decide)) he_89
            have he_98 := up_kp eσ_91 (fun z => absurd (hd 5 3 (by decide) (by decide) z) (by decide)) he_90
            have hfr := hfr.up he_88 mK_i eσ_91
            refine lv_aload_n C.1 C.2.1 dX2_addPart_136 rfl (lv_at hl 0 rfl) ?_
            refine lv_dup C.1 C.2.1 dX2_addPart_137 rfl ?_
            refine gf_X2_46_8 C hS he_92 rfl dX2_addPart_138 ?_
            refine ti_const C.1 C.2.1 dX2_addPart_141 ?_
            refine ti_iadd C.1 C.2.1 dX2_addPart_142 ?_
            refine gp_X2_46_8 C hS he_92 rfl rfl (Nat.le_of_ble_eq_true rfl) dX2_addPart_143 (fun H locs hS => ?_)
            obtain ⟨σ_99, eσ_99⟩ : ∃ z, z = va_up σ_91 (mo) (some (oO 8 [.int (iI (M1.1 0)), .int (iI (M1.1 1)), .ref (ad 0), .int (iI (M1.1 2)), .ref (ad 1), .int (iI ((M1.1 3 + 1))), .ref (ad 2), .ref (ad 3), .int (iI (M1.1 4)), .int (iI (M1.1 5)), .int (iI (M1.1 6)), .ref (ad 4), .ref (ad 5), .int (iI (M1.1 7)), .int (iI (M1.1 8))])) := ⟨_, rfl⟩
            have hS : tl_S X s σ_99 H locs := by rw [eσ_99]; exact hS
            have he_100 : σ_99 (mo) = some (oO 8 [.int (iI (M1.1 0)), .int (iI (M1.1 1)), .ref (ad 0), .int (iI (M1.1 2)), .ref (ad 1), .int (iI ((M1.1 3 + 1))), .ref (ad 2), .ref (ad 3), .int (iI (M1.1 4)), .int (iI (M1.1 5)), .int (iI (M1.1 6)), .ref (ad 4), .ref (ad 5), .int (iI (M1.1 7)), .int (iI (M1.1 8))]) := by rw [eσ_99]; exact up_s
            have he_101 := up_kp eσ_99 (Ne.symm (tl_neA he_92 he_93)) he_93
            have he_102 := up_kp eσ_99 (Ne.symm (tl_neA he_92 he_94)) he_94
            have he_103 := up_kp eσ_99 (Ne.symm (tl_neA he_92 he_95)) he_95
            have he_104 := up_kp eσ_99 (Ne.symm (tl_neA he_92 he_96)) he_96
            have he_105 := up_kp eσ_99 (Ne.symm (tl_neA he_92 he_97)) he_97
            have he_106 := up_kp eσ_99 (Ne.symm (tl_neA he_92 he_98)) he_98
            have hfr := hfr.up he_92 mK_o eσ_99
            refine lv_aload_n C.1 C.2.1 dX2_addPart_146 rfl (lv_at hl 0 rfl) ?_
            refine gf_X2_46_8 C hS he_100 rfl dX2_addPart_147 ?_
            refine ti_const C.1 C.2.1 dX2_addPart_150 ?_
            refine ti_isub C.1 C.2.1 dX2_addPart_151 ?_
            exact r_i C hr hlk hS (by rw [show mAddPart M1 ln w g cn j = (((M1.1 3 + 1) - 1), (mset (aset (aset (aset (aset (aset M1 2 ((4 * M1.1 3)) (ln)) 2 (((4 * M1.1 3) + 1)) (w)) 2 (((4 * M1.1 3) + 2)) (g)) 2 (((4 * M1.1 3) + 3)) (cn)) 3 (M1.1 3) (j)) 3 ((M1.1 3 + 1)))) from by (unfold mAddPart; (repeat (first | rw [if_pos (by omega)] | rw [if_neg (by omega)])); try rfl)]; exact ⟨rfl, ⟨he_100, he_101, he_102, he_103, he_104, he_105, he_106, hd⟩, hfr⟩) dX2_addPart_152
          · skip
            refine lv_aload_n C.1 C.2.1 dX2_addPart_64 rfl (lv_at hl 0 rfl) ?_
            refine ti_const C.1 C.2.1 dX2_addPart_65 ?_
            refine tl_ci (t_V (n := 1) (ci := 8) C hml hS (m2_fail l X σ_1 mo ad M1 ⟨hm, h0, h1, h2, h3, h4, h5, hd⟩ (2)) q1785 q1787 qs21 q53 q1788 (by decide +kernel) hm rfl rfl hl.1 rfl (Nat.le_of_ble_eq_true rfl) dX2_addPart_66 ⟨Nat.le_of_ble_eq_true rfl, Nat.le_of_ble_eq_true rfl⟩ ⟨Nat.le_refl _, Nat.le_refl _⟩) hS (fun r_107 σ_109 H locs hP_108 hS => ?_)
            obtain ⟨rfl, hM_110, hfr9⟩ := hP_108
            have hfr := hfr.trans hfr9
            obtain ⟨hm_111, hm_112, hm_113, hm_114, hm_115, hm_116, hm_117, hd⟩ := id hM_110
            exact r_i C hr hlk hS (by rw [show mAddPart M1 ln w g cn j = (0, (mset M1 0 (2))) from by (unfold mAddPart; (repeat (first | rw [if_pos (by omega)] | rw [if_neg (by omega)])); try rfl)]; exact ⟨rfl, ⟨hm_111, hm_112, hm_113, hm_114, hm_115, hm_116, hm_117, hd⟩, hfr⟩) dX2_addPart_69
        · skip
          refine lv_aload_n C.1 C.2.1 dX2_addPart_49 rfl (lv_at hl 0 rfl) ?_
          refine ti_const C.1 C.2.1 dX2_addPart_50 ?_
          refine tl_ci (t_V (n := 1) (ci := 8) C hml hS (m2_fail l X σ_1 mo ad M1 ⟨hm, h0, h1, h2, h3, h4, h5, hd⟩ (1)) q1785 q1787 qs21 q53 q1788 (by decide +kernel) hm rfl rfl hl.1 rfl (Nat.le_of_ble_eq_true rfl) dX2_addPart_51 ⟨Nat.le_of_ble_eq_true rfl, Nat.le_of_ble_eq_true rfl⟩ ⟨Nat.le_refl _, Nat.le_refl _⟩) hS (fun r_118 σ_120 H locs hP_119 hS => ?_)
          obtain ⟨rfl, hM_121, hfr9⟩ := hP_119
          have hfr := hfr.trans hfr9
          obtain ⟨hm_122, hm_123, hm_124, hm_125, hm_126, hm_127, hm_128, hd⟩ := id hM_121
          exact r_i C hr hlk hS (by rw [show mAddPart M1 ln w g cn j = (0, (mset M1 0 (1))) from by (unfold mAddPart; (repeat (first | rw [if_pos (by omega)] | rw [if_neg (by omega)])); try rfl)]; exact ⟨rfl, ⟨hm_122, hm_123, hm_124, hm_125, hm_126, hm_127, hm_128, hd⟩, hfr⟩) dX2_addPart_54

theorem gp_X2_23_8 {p : Program} {l : Launch} {e : Env} {R : Room} {s : State} {m : MethodId} {args : Array Value} {below : List Frame} {meth : Method} {c : Code} {H : Heap} {locs : List Loc} {cells slots : Nat} {Q : State → Prop} {cc : ByteArray} {pc : Nat} {ls : Array Slot} {rest : List Value} {X : tl_X} {σ : tl_H} {a : Nat} {fs : List Value} {v : Value} (C : tl_C X p s m args c cc RX2) (hS : tl_S X s σ H locs) (he : σ a = some (oO 8 fs)) (hn : narrow (tyX2 8) v = v) (hfit : fits (tyX2 8) v = true) (hl : 8 < fs.length) (hdg : decode cc pc = .ok (.putfield 23, 3)) (kk : ∀ (H1 : Heap) (locs1 : List Loc), tl_S X s (va_up σ a (some (oO 8 (fs.set 8 v)))) H1 locs1 → W p l e R s m args below meth c H1 locs1 cells slots Q (F0 m (pc + 3) ls rest)) : W p l e R s m args below meth c H locs cells slots Q (F0 m pc ls (v :: .ref a :: rest)) :=
  h_put (ref := "TimberListModel") C hS in_X2 tyX2 tyX2_ok nmX2 rfl 8 (by decide) q1735 (fun _ h => h) rfl (by decide) he hn hfit hl hdg kk
set_option maxHeartbeats 4000000 in
theorem m2_setSaw (l : Launch) (X : tl_X) (σ : tl_H) (mo : Nat) (ad : Nat → Nat) (M : mS) (hM : MD X σ mo ad M) (hI : mI M) (w : Int) (hr : -2147483648 ≤ w ∧ w ≤ 2147483647) : tl_Met l X yX2_setSaw cX2_setSaw 3 ((Option.some FieldType.int)) 3 (0) (0) [.ref (mo), .int (iI (w))] σ (tl_Qi X (fun r σ' => r = iI (mSetSaw (mset M 0 0) w).1 ∧ MD X σ' mo ad (mSetSaw (mset M 0 0) w).2 ∧ mFr σ σ')) := by
  obtain ⟨M1, eM1⟩ : ∃ z, z = mset M 0 0 := ⟨_, rfl⟩
  rw [← eM1]
  refine tl_start (by decide) (Nat.le_of_ble_eq_true rfl) (fun p e s m below meth c ls C hr hml hlk hnm hS hl => ?_)
  have hl : lv_has ls 3 [(0, .ref (mo)), (1, .int (iI (w)))] := hl
  obtain ⟨hm, h0, h1, h2, h3, h4, h5, hd⟩ := id hM
  obtain ⟨hN, hB, hPt, hJ, hA, hWn⟩ := id hI
  have hfr : mFr σ σ := mFr.rf
  refine lv_aload_n C.1 C.2.1 dX2_setSaw_0 rfl (lv_at hl 0 rfl) ?_
  refine ti_const C.1 C.2.1 dX2_setSaw_1 ?_
  refine gp_X2_36_8 C hS hm rfl rfl (Nat.le_of_ble_eq_true rfl) dX2_setSaw_2 (fun H locs hS => ?_)
  obtain ⟨σ_1, eσ_1⟩ : ∃ z, z = va_up σ (mo) (some (oO 8 [.int (iI (0)), .int (iI (M.1 1)), .ref (ad 0), .int (iI (M.1 2)), .ref (ad 1), .int (iI (M.1 3)), .ref (ad 2), .ref (ad 3), .int (iI (M.1 4)), .int (iI (M.1 5)), .int (iI (M.1 6)), .ref (ad 4), .ref (ad 5), .int (iI (M.1 7)), .int (iI (M.1 8))])) := ⟨_, rfl⟩
  have hS : tl_S X s σ_1 H locs := by rw [eσ_1]; exact hS
  have he_2 : σ_1 (mo) = some (oO 8 [.int (iI (0)), .int (iI (M.1 1)), .ref (ad 0), .int (iI (M.1 2)), .ref (ad 1), .int (iI (M.1 3)), .ref (ad 2), .ref (ad 3), .int (iI (M.1 4)), .int (iI (M.1 5)), .int (iI (M.1 6)), .ref (ad 4), .ref (ad 5), .int (iI (M.1 7)), .int (iI (M.1 8))]) := by rw [eσ_1]; exact up_s
  have he_3 := up_kp eσ_1 (Ne.symm (tl_neA hm h0)) h0
  have he_4 := up_kp eσ_1 (Ne.symm (tl_neA hm h1)) h1
  have he_5 := up_kp eσ_1 (Ne.symm (tl_neA hm h2)) h2
  have he_6 := up_kp eσ_1 (Ne.symm (tl_neA hm h3)) h3
  have he_7 := up_kp eσ_1 (Ne.symm (tl_neA hm h4)) h4
  have he_8 := up_kp eσ_1 (Ne.symm (tl_neA hm h5)) h5
  have hfr := hfr.up hm mK_o eσ_1
  have hM1 : MD X σ_1 mo ad M1 := by rw [eM1]; exact ⟨he_2, he_3, he_4, he_5, he_6, he_7, he_8, hd⟩
  have hI1 : mI M1 := by rw [eM1]; exact hI.t0 0 (by decide)
  obtain ⟨hm, h0, h1, h2, h3, h4, h5, hd⟩ := id hM1
  obtain ⟨hN, hB, hPt, hJ, hA, hWn⟩ := id hI1
  refine lv_iload_n C.1 C.2.1 dX2_setSaw_5 rfl (lv_at hl 1 rfl) ?_
  refine ti_const C.1 C.2.1 dX2_setSaw_6 ?_
  refine ti_bipush C.1 C.2.1 dX2_setSaw_7 (by decide) ?_
  refine tl_ci (t_S (n := 3) C hml hS (m2_isIn l X σ_1 (w) (0) (10) (by omega)) q1782 q1783 q53 q1784 (by decide +kernel) rfl hl.1 rfl (Nat.le_of_ble_eq_true rfl) dX2_setSaw_9 ⟨Nat.le_of_ble_eq_true rfl, Nat.le_of_ble_eq_true rfl⟩ ⟨Nat.le_refl _, Nat.le_refl _⟩) hS (fun r_9 σ_11 H locs hP_10 hS => ?_)
  obtain ⟨rfl, rfl⟩ := hP_10
  refine ti_tb_ne (tgt := 21) C.1 C.2.1 dX2_setSaw_12 (by decide) (fun hc_12 => ?_) (fun hc_12 => ?_)
  · skip
    refine lv_aload_n C.1 C.2.1 dX2_setSaw_21 rfl (lv_at hl 0 rfl) ?_
    refine gf_X2_63_8 C hS hm rfl dX2_setSaw_22 ?_
    refine ti_if_le (tgt := 34) C.1 C.2.1 dX2_setSaw_25 (by decide) ⟨by omega, by omega⟩ (fun hc_13 => ?_) (fun hc_13 => ?_)
    · skip
      refine lv_aload_n C.1 C.2.1 dX2_setSaw_34 rfl (lv_at hl 0 rfl) ?_
      refine gf_X2_23_8 C hS hm rfl dX2_setSaw_35 ?_
      refine lv_istore_n (lv' := [(2, .int (iI (M1.1 4))), (0, .ref (mo)), (1, .int (iI (w)))]) C.1 C.2.1 dX2_setSaw_38 rfl hl (by decide) rfl (fun ls hl => ?_)
      refine lv_aload_n C.1 C.2.1 dX2_setSaw_39 rfl (lv_at hl 1 rfl) ?_
      refine lv_iload_n C.1 C.2.1 dX2_setSaw_40 rfl (lv_at hl 2 rfl) ?_
      refine gp_X2_23_8 C hS hm rfl rfl (Nat.le_of_ble_eq_true rfl) dX2_setSaw_41 (fun H locs hS => ?_)
      obtain ⟨σ_14, eσ_14⟩ : ∃ z, z = va_up σ_1 (mo) (some (oO 8 [.int (iI (M1.1 0)), .int (iI (M1.1 1)), .ref (ad 0), .int (iI (M1.1 2)), .ref (ad 1), .int (iI (M1.1 3)), .ref (ad 2), .ref (ad 3), .int (iI (w)), .int (iI (M1.1 5)), .int (iI (M1.1 6)), .ref (ad 4), .ref (ad 5), .int (iI (M1.1 7)), .int (iI (M1.1 8))])) := ⟨_, rfl⟩
      have hS : tl_S X s σ_14 H locs := by rw [eσ_14]; exact hS
      have he_15 : σ_14 (mo) = some (oO 8 [.int (iI (M1.1 0)), .int (iI (M1.1 1)), .ref (ad 0), .int (iI (M1.1 2)), .ref (ad 1), .int (iI (M1.1 3)), .ref (ad 2), .ref (ad 3), .int (iI (w)), .int (iI (M1.1 5)), .int (iI (M1.1 6)), .ref (ad 4), .ref (ad 5), .int (iI (M1.1 7)), .int (iI (M1.1 8))]) := by rw [eσ_14]; exact up_s
      have he_16 := up_kp eσ_14 (Ne.symm (tl_neA hm h0)) h0
      have he_17 := up_kp eσ_14 (Ne.symm (tl_neA hm h1)) h1
      have he_18 := up_kp eσ_14 (Ne.symm (tl_neA hm h2)) h2
      have he_19 := up_kp eσ_14 (Ne.symm (tl_neA hm h3)) h3
      have he_20 := up_kp eσ_14 (Ne.symm (tl_neA hm h4)) h4
      have he_21 := up_kp eσ_14 (Ne.symm (tl_neA hm h5)) h5
      have hfr := hfr.up hm mK_o eσ_14
      refine lv_iload_n C.1 C.2.1 dX2_setSaw_44 rfl (lv_at hl 0 rfl) ?_
      exact r_i C hr hlk hS (by rw [show mSetSaw M1 w = (M1.1 4, (mset M1 4 (w))) from by (unfold mSetSaw; (repeat (first | rw [if_pos (by omega)] | rw [if_neg (by omega)])); try rfl)]; exact ⟨rfl, ⟨he_15, he_16, he_17, he_18, he_19, he_20, he_21, hd⟩, hfr⟩) dX2_setSaw_45
    · skip
      refine lv_aload_n C.1 C.2.1 dX2_setSaw_28 rfl (lv_at hl 0 rfl) ?_
      refine ti_const C.1 C.2.1 dX2_setSaw_29 ?_
      refine tl_ci (t_V (n := 1) (ci := 8) C hml hS (m2_fail l X σ_1 mo ad M1 ⟨hm, h0, h1, h2, h3, h4, h5, hd⟩ (2)) q1785 q1787 qs21 q53 q1788 (by decide +kernel) hm rfl rfl hl.1 rfl (Nat.le_of_ble_eq_true rfl) dX2_setSaw_30 ⟨Nat.le_of_ble_eq_true rfl, Nat.le_of_ble_eq_true rfl⟩ ⟨Nat.le_refl _, Nat.le_refl _⟩) hS (fun r_22 σ_24 H locs hP_23 hS => ?_)
      obtain ⟨rfl, hM_25, hfr9⟩ := hP_23
      have hfr := hfr.trans hfr9
      obtain ⟨hm_26, hm_27, hm_28, hm_29, hm_30, hm_31, hm_32, hd⟩ := id hM_25
      exact r_i C hr hlk hS (by rw [show mSetSaw M1 w = (0, (mset M1 0 (2))) from by (unfold mSetSaw; (repeat (first | rw [if_pos (by omega)] | rw [if_neg (by omega)])); try rfl)]; exact ⟨rfl, ⟨hm_26, hm_27, hm_28, hm_29, hm_30, hm_31, hm_32, hd⟩, hfr⟩) dX2_setSaw_33
  · skip
    refine lv_aload_n C.1 C.2.1 dX2_setSaw_15 rfl (lv_at hl 0 rfl) ?_
    refine ti_const C.1 C.2.1 dX2_setSaw_16 ?_
    refine tl_ci (t_V (n := 1) (ci := 8) C hml hS (m2_fail l X σ_1 mo ad M1 ⟨hm, h0, h1, h2, h3, h4, h5, hd⟩ (1)) q1785 q1787 qs21 q53 q1788 (by decide +kernel) hm rfl rfl hl.1 rfl (Nat.le_of_ble_eq_true rfl) dX2_setSaw_17 ⟨Nat.le_of_ble_eq_true rfl, Nat.le_of_ble_eq_true rfl⟩ ⟨Nat.le_refl _, Nat.le_refl _⟩) hS (fun r_33 σ_35 H locs hP_34 hS => ?_)
    obtain ⟨rfl, hM_36, hfr9⟩ := hP_34
    have hfr := hfr.trans hfr9
    obtain ⟨hm_37, hm_38, hm_39, hm_40, hm_41, hm_42, hm_43, hd⟩ := id hM_36
    exact r_i C hr hlk hS (by rw [show mSetSaw M1 w = (0, (mset M1 0 (1))) from by (unfold mSetSaw; (repeat (first | rw [if_pos (by omega)] | rw [if_neg (by omega)])); try rfl)]; exact ⟨rfl, ⟨hm_37, hm_38, hm_39, hm_40, hm_41, hm_42, hm_43, hd⟩, hfr⟩) dX2_setSaw_20

theorem gf_X2_27_8 {p : Program} {l : Launch} {e : Env} {R : Room} {s : State} {m : MethodId} {args : Array Value} {below : List Frame} {meth : Method} {c : Code} {H : Heap} {locs : List Loc} {cells slots : Nat} {Q : State → Prop} {cc : ByteArray} {pc : Nat} {ls : Array Slot} {rest : List Value} {X : tl_X} {σ : tl_H} {a : Nat} {fs : List Value} {v : Value} (C : tl_C X p s m args c cc RX2) (hS : tl_S X s σ H locs) (he : σ a = some (oO 8 fs)) (hv : fs[9]? = some v) (hdg : decode cc pc = .ok (.getfield 27, 3)) (kk : W p l e R s m args below meth c H locs cells slots Q (F0 m (pc + 3) ls (v :: rest))) : W p l e R s m args below meth c H locs cells slots Q (F0 m pc ls (.ref a :: rest)) :=
  h_get (ref := "TimberListModel") C hS in_X2 rfl 9 (by decide) q1736 (fun _ h => h) he hv hdg kk
theorem gp_X2_27_8 {p : Program} {l : Launch} {e : Env} {R : Room} {s : State} {m : MethodId} {args : Array Value} {below : List Frame} {meth : Method} {c : Code} {H : Heap} {locs : List Loc} {cells slots : Nat} {Q : State → Prop} {cc : ByteArray} {pc : Nat} {ls : Array Slot} {rest : List Value} {X : tl_X} {σ : tl_H} {a : Nat} {fs : List Value} {v : Value} (C : tl_C X p s m args c cc RX2) (hS : tl_S X s σ H locs) (he : σ a = some (oO 8 fs)) (hn : narrow (tyX2 9) v = v) (hfit : fits (tyX2 9) v = true) (hl : 9 < fs.length) (hdg : decode cc pc = .ok (.putfield 27, 3)) (kk : ∀ (H1 : Heap) (locs1 : List Loc), tl_S X s (va_up σ a (some (oO 8 (fs.set 9 v)))) H1 locs1 → W p l e R s m args below meth c H1 locs1 cells slots Q (F0 m (pc + 3) ls rest)) : W p l e R s m args below meth c H locs cells slots Q (F0 m pc ls (v :: .ref a :: rest)) :=
  h_put (ref := "TimberListModel") C hS in_X2 tyX2 tyX2_ok nmX2 rfl 9 (by decide) q1736 (fun _ h => h) rfl (by decide) he hn hfit hl hdg kk
set_option maxHeartbeats 4000000 in
theorem m2_setJoint (l : Launch) (X : tl_X) (σ : tl_H) (mo : Nat) (ad : Nat → Nat) (M : mS) (hM : MD X σ mo ad M) (hI : mI M) (w : Int) (hr : -2147483648 ≤ w ∧ w ≤ 2147483647) : tl_Met l X yX2_setJoint cX2_setJoint 3 ((Option.some FieldType.int)) 3 (0) (0) [.ref (mo), .int (iI (w))] σ (tl_Qi X (fun r σ' => r = iI (mSetJoint (mset M 0 0) w).1 ∧ MD X σ' mo ad (mSetJoint (mset M 0 0) w).2 ∧ mFr σ σ')) := by
  obtain ⟨M1, eM1⟩ : ∃ z, z = mset M 0 0 := ⟨_, rfl⟩
  rw [← eM1]
  refine tl_start (by decide) (Nat.le_of_ble_eq_true rfl) (fun p e s m below meth c ls C hr hml hlk hnm hS hl => ?_)
  have hl : lv_has ls 3 [(0, .ref (mo)), (1, .int (iI (w)))] := hl
  obtain ⟨hm, h0, h1, h2, h3, h4, h5, hd⟩ := id hM
  obtain ⟨hN, hB, hPt, hJ, hA, hWn⟩ := id hI
  have hfr : mFr σ σ := mFr.rf
  refine lv_aload_n C.1 C.2.1 dX2_setJoint_0 rfl (lv_at hl 0 rfl) ?_
  refine ti_const C.1 C.2.1 dX2_setJoint_1 ?_
  refine gp_X2_36_8 C hS hm rfl rfl (Nat.le_of_ble_eq_true rfl) dX2_setJoint_2 (fun H locs hS => ?_)
  obtain ⟨σ_1, eσ_1⟩ : ∃ z, z = va_up σ (mo) (some (oO 8 [.int (iI (0)), .int (iI (M.1 1)), .ref (ad 0), .int (iI (M.1 2)), .ref (ad 1), .int (iI (M.1 3)), .ref (ad 2), .ref (ad 3), .int (iI (M.1 4)), .int (iI (M.1 5)), .int (iI (M.1 6)), .ref (ad 4), .ref (ad 5), .int (iI (M.1 7)), .int (iI (M.1 8))])) := ⟨_, rfl⟩
  have hS : tl_S X s σ_1 H locs := by rw [eσ_1]; exact hS
  have he_2 : σ_1 (mo) = some (oO 8 [.int (iI (0)), .int (iI (M.1 1)), .ref (ad 0), .int (iI (M.1 2)), .ref (ad 1), .int (iI (M.1 3)), .ref (ad 2), .ref (ad 3), .int (iI (M.1 4)), .int (iI (M.1 5)), .int (iI (M.1 6)), .ref (ad 4), .ref (ad 5), .int (iI (M.1 7)), .int (iI (M.1 8))]) := by rw [eσ_1]; exact up_s
  have he_3 := up_kp eσ_1 (Ne.symm (tl_neA hm h0)) h0
  have he_4 := up_kp eσ_1 (Ne.symm (tl_neA hm h1)) h1
  have he_5 := up_kp eσ_1 (Ne.symm (tl_neA hm h2)) h2
  have he_6 := up_kp eσ_1 (Ne.symm (tl_neA hm h3)) h3
  have he_7 := up_kp eσ_1 (Ne.symm (tl_neA hm h4)) h4
  have he_8 := up_kp eσ_1 (Ne.symm (tl_neA hm h5)) h5
  have hfr := hfr.up hm mK_o eσ_1
  have hM1 : MD X σ_1 mo ad M1 := by rw [eM1]; exact ⟨he_2, he_3, he_4, he_5, he_6, he_7, he_8, hd⟩
  have hI1 : mI M1 := by rw [eM1]; exact hI.t0 0 (by decide)
  obtain ⟨hm, h0, h1, h2, h3, h4, h5, hd⟩ := id hM1
  obtain ⟨hN, hB, hPt, hJ, hA, hWn⟩ := id hI1
  refine lv_iload_n C.1 C.2.1 dX2_setJoint_5 rfl (lv_at hl 1 rfl) ?_
  refine ti_const C.1 C.2.1 dX2_setJoint_6 ?_
  refine ti_bipush C.1 C.2.1 dX2_setJoint_7 (by decide) ?_
  refine tl_ci (t_S (n := 3) C hml hS (m2_isIn l X σ_1 (w) (0) (50) (by omega)) q1782 q1783 q53 q1784 (by decide +kernel) rfl hl.1 rfl (Nat.le_of_ble_eq_true rfl) dX2_setJoint_9 ⟨Nat.le_of_ble_eq_true rfl, Nat.le_of_ble_eq_true rfl⟩ ⟨Nat.le_refl _, Nat.le_refl _⟩) hS (fun r_9 σ_11 H locs hP_10 hS => ?_)
  obtain ⟨rfl, rfl⟩ := hP_10
  refine ti_tb_ne (tgt := 21) C.1 C.2.1 dX2_setJoint_12 (by decide) (fun hc_12 => ?_) (fun hc_12 => ?_)
  · skip
    refine lv_aload_n C.1 C.2.1 dX2_setJoint_21 rfl (lv_at hl 0 rfl) ?_
    refine gf_X2_27_8 C hS hm rfl dX2_setJoint_22 ?_
    refine lv_istore_n (lv' := [(2, .int (iI (M1.1 5))), (0, .ref (mo)), (1, .int (iI (w)))]) C.1 C.2.1 dX2_setJoint_25 rfl hl (by decide) rfl (fun ls hl => ?_)
    refine lv_aload_n C.1 C.2.1 dX2_setJoint_26 rfl (lv_at hl 1 rfl) ?_
    refine lv_iload_n C.1 C.2.1 dX2_setJoint_27 rfl (lv_at hl 2 rfl) ?_
    refine gp_X2_27_8 C hS hm rfl rfl (Nat.le_of_ble_eq_true rfl) dX2_setJoint_28 (fun H locs hS => ?_)
    obtain ⟨σ_13, eσ_13⟩ : ∃ z, z = va_up σ_1 (mo) (some (oO 8 [.int (iI (M1.1 0)), .int (iI (M1.1 1)), .ref (ad 0), .int (iI (M1.1 2)), .ref (ad 1), .int (iI (M1.1 3)), .ref (ad 2), .ref (ad 3), .int (iI (M1.1 4)), .int (iI (w)), .int (iI (M1.1 6)), .ref (ad 4), .ref (ad 5), .int (iI (M1.1 7)), .int (iI (M1.1 8))])) := ⟨_, rfl⟩
    have hS : tl_S X s σ_13 H locs := by rw [eσ_13]; exact hS
    have he_14 : σ_13 (mo) = some (oO 8 [.int (iI (M1.1 0)), .int (iI (M1.1 1)), .ref (ad 0), .int (iI (M1.1 2)), .ref (ad 1), .int (iI (M1.1 3)), .ref (ad 2), .ref (ad 3), .int (iI (M1.1 4)), .int (iI (w)), .int (iI (M1.1 6)), .ref (ad 4), .ref (ad 5), .int (iI (M1.1 7)), .int (iI (M1.1 8))]) := by rw [eσ_13]; exact up_s
    have he_15 := up_kp eσ_13 (Ne.symm (tl_neA hm h0)) h0
    have he_16 := up_kp eσ_13 (Ne.symm (tl_neA hm h1)) h1
    have he_17 := up_kp eσ_13 (Ne.symm (tl_neA hm h2)) h2
    have he_18 := up_kp eσ_13 (Ne.symm (tl_neA hm h3)) h3
    have he_19 := up_kp eσ_13 (Ne.symm (tl_neA hm h4)) h4
    have he_20 := up_kp eσ_13 (Ne.symm (tl_neA hm h5)) h5
    have hfr := hfr.up hm mK_o eσ_13
    refine lv_iload_n C.1 C.2.1 dX2_setJoint_31 rfl (lv_at hl 0 rfl) ?_
    exact r_i C hr hlk hS (by rw [show mSetJoint M1 w = (M1.1 5, (mset M1 5 (w))) from by (unfold mSetJoint; (repeat (first | rw [if_pos (by omega)] | rw [if_neg (by omega)])); try rfl)]; exact ⟨rfl, ⟨he_14, he_15, he_16, he_17, he_18, he_19, he_20, hd⟩, hfr⟩) dX2_setJoint_32
  · skip
    refine lv_aload_n C.1 C.2.1 dX2_setJoint_15 rfl (lv_at hl 0 rfl) ?_
    refine ti_const C.1 C.2.1 dX2_setJoint_16 ?_
    refine tl_ci (t_V (n := 1) (ci := 8) C hml hS (m2_fail l X σ_1 mo ad M1 ⟨hm, h0, h1, h2, h3, h4, h5, hd⟩ (1)) q1785 q1787 qs21 q53 q1788 (by decide +kernel) hm rfl rfl hl.1 rfl (Nat.le_of_ble_eq_true rfl) dX2_setJoint_17 ⟨Nat.le_of_ble_eq_true rfl, Nat.le_of_ble_eq_true rfl⟩ ⟨Nat.le_refl _, Nat.le_refl _⟩) hS (fun r_21 σ_23 H locs hP_22 hS => ?_)
    obtain ⟨rfl, hM_24, hfr9⟩ := hP_22
    have hfr := hfr.trans hfr9
    obtain ⟨hm_25, hm_26, hm_27, hm_28, hm_29, hm_30, hm_31, hd⟩ := id hM_24
    exact r_i C hr hlk hS (by rw [show mSetJoint M1 w = (0, (mset M1 0 (1))) from by (unfold mSetJoint; (repeat (first | rw [if_pos (by omega)] | rw [if_neg (by omega)])); try rfl)]; exact ⟨rfl, ⟨hm_25, hm_26, hm_27, hm_28, hm_29, hm_30, hm_31, hd⟩, hfr⟩) dX2_setJoint_20

set_option maxHeartbeats 4000000 in
theorem m2_grade (l : Launch) (X : tl_X) (σ : tl_H) (mo : Nat) (ad : Nat → Nat) (M : mS) (hM : MD X σ mo ad M) (hI : mI M) (b pl : Int) (hr : -2147483648 ≤ b ∧ b ≤ 2147483647 ∧ -2147483648 ≤ pl ∧ pl ≤ 2147483647) : tl_Met l X yX2_grade cX2_grade 3 ((Option.some FieldType.int)) 4 (0) (0) [.ref (mo), .int (iI (b)), .int (iI (pl))] σ (tl_Qi X (fun r σ' => r = iI (mGrade (mset M 0 0) b pl).1 ∧ MD X σ' mo ad (mGrade (mset M 0 0) b pl).2 ∧ mFr σ σ')) := by
  obtain ⟨M1, eM1⟩ : ∃ z, z = mset M 0 0 := ⟨_, rfl⟩
  rw [← eM1]
  refine tl_start (by decide) (Nat.le_of_ble_eq_true rfl) (fun p e s m below meth c ls C hr hml hlk hnm hS hl => ?_)
  have hl : lv_has ls 3 [(0, .ref (mo)), (1, .int (iI (b))), (2, .int (iI (pl)))] := hl
  obtain ⟨hm, h0, h1, h2, h3, h4, h5, hd⟩ := id hM
  obtain ⟨hN, hB, hPt, hJ, hA, hWn⟩ := id hI
  have hfr : mFr σ σ := mFr.rf
  refine lv_aload_n C.1 C.2.1 dX2_grade_0 rfl (lv_at hl 0 rfl) ?_
  refine ti_const C.1 C.2.1 dX2_grade_1 ?_
  refine gp_X2_36_8 C hS hm rfl rfl (Nat.le_of_ble_eq_true rfl) dX2_grade_2 (fun H locs hS => ?_)
  obtain ⟨σ_1, eσ_1⟩ : ∃ z, z = va_up σ (mo) (some (oO 8 [.int (iI (0)), .int (iI (M.1 1)), .ref (ad 0), .int (iI (M.1 2)), .ref (ad 1), .int (iI (M.1 3)), .ref (ad 2), .ref (ad 3), .int (iI (M.1 4)), .int (iI (M.1 5)), .int (iI (M.1 6)), .ref (ad 4), .ref (ad 5), .int (iI (M.1 7)), .int (iI (M.1 8))])) := ⟨_, rfl⟩
  have hS : tl_S X s σ_1 H locs := by rw [eσ_1]; exact hS
  have he_2 : σ_1 (mo) = some (oO 8 [.int (iI (0)), .int (iI (M.1 1)), .ref (ad 0), .int (iI (M.1 2)), .ref (ad 1), .int (iI (M.1 3)), .ref (ad 2), .ref (ad 3), .int (iI (M.1 4)), .int (iI (M.1 5)), .int (iI (M.1 6)), .ref (ad 4), .ref (ad 5), .int (iI (M.1 7)), .int (iI (M.1 8))]) := by rw [eσ_1]; exact up_s
  have he_3 := up_kp eσ_1 (Ne.symm (tl_neA hm h0)) h0
  have he_4 := up_kp eσ_1 (Ne.symm (tl_neA hm h1)) h1
  have he_5 := up_kp eσ_1 (Ne.symm (tl_neA hm h2)) h2
  have he_6 := up_kp eσ_1 (Ne.symm (tl_neA hm h3)) h3
  have he_7 := up_kp eσ_1 (Ne.symm (tl_neA hm h4)) h4
  have he_8 := up_kp eσ_1 (Ne.symm (tl_neA hm h5)) h5
  have hfr := hfr.up hm mK_o eσ_1
  have hM1 : MD X σ_1 mo ad M1 := by rw [eM1]; exact ⟨he_2, he_3, he_4, he_5, he_6, he_7, he_8, hd⟩
  have hI1 : mI M1 := by rw [eM1]; exact hI.t0 0 (by decide)
  obtain ⟨hm, h0, h1, h2, h3, h4, h5, hd⟩ := id hM1
  obtain ⟨hN, hB, hPt, hJ, hA, hWn⟩ := id hI1
  refine lv_aload_n C.1 C.2.1 dX2_grade_5 rfl (lv_at hl 0 rfl) ?_
  refine lv_iload_n C.1 C.2.1 dX2_grade_6 rfl (lv_at hl 1 rfl) ?_
  refine tl_ci (t_V (n := 1) (ci := 8) C hml hS (m2_isBoard l X σ_1 mo ad M1 hM1 hI1 (b) (by omega)) q1793 q1795 qs22 q53 q1796 (by decide +kernel) hm rfl rfl hl.1 rfl (Nat.le_of_ble_eq_true rfl) dX2_grade_7 ⟨Nat.le_of_ble_eq_true rfl, Nat.le_of_ble_eq_true rfl⟩ ⟨Nat.le_refl _, Nat.le_refl _⟩) hS (fun r_9 σ_11 H locs hP_10 hS => ?_)
  obtain ⟨rfl, rfl⟩ := hP_10
  refine ti_tb_eq (tgt := 37) C.1 C.2.1 dX2_grade_10 (by decide) (fun hc_12 => ?_) (fun hc_12 => ?_)
  · skip
    refine lv_aload_n C.1 C.2.1 dX2_grade_37 rfl (lv_at hl 0 rfl) ?_
    refine ti_const C.1 C.2.1 dX2_grade_38 ?_
    refine tl_ci (t_V (n := 1) (ci := 8) C hml hS (m2_fail l X σ_1 mo ad M1 ⟨hm, h0, h1, h2, h3, h4, h5, hd⟩ (1)) q1785 q1787 qs21 q53 q1788 (by decide +kernel) hm rfl rfl hl.1 rfl (Nat.le_of_ble_eq_true rfl) dX2_grade_39 ⟨Nat.le_of_ble_eq_true rfl, Nat.le_of_ble_eq_true rfl⟩ ⟨Nat.le_refl _, Nat.le_refl _⟩) hS (fun r_13 σ_15 H locs hP_14 hS => ?_)
    obtain ⟨rfl, hM_16, hfr9⟩ := hP_14
    have hfr := hfr.trans hfr9
    obtain ⟨hm_17, hm_18, hm_19, hm_20, hm_21, hm_22, hm_23, hd⟩ := id hM_16
    exact r_i C hr hlk hS (by rw [show mGrade M1 b pl = (0, (mset M1 0 (1))) from by (unfold mGrade; (repeat (first | rw [if_pos (by omega)] | rw [if_neg (by omega)])); try rfl)]; exact ⟨rfl, ⟨hm_17, hm_18, hm_19, hm_20, hm_21, hm_22, hm_23, hd⟩, hfr⟩) dX2_grade_42
  · skip
    refine lv_iload_n C.1 C.2.1 dX2_grade_13 rfl (lv_at hl 2 rfl) ?_
    refine ti_const C.1 C.2.1 dX2_grade_14 ?_
    refine lv_aload_n C.1 C.2.1 dX2_grade_15 rfl (lv_at hl 0 rfl) ?_
    refine lv_iload_n C.1 C.2.1 dX2_grade_16 rfl (lv_at hl 1 rfl) ?_
    have hb_24 := hB 0 (3 * b)
    refine tl_ci (t_V (n := 1) (ci := 8) C hml hS (m2_length l X σ_1 mo ad M1 hM1 hI1 (b) (by omega)) q1797 q1799 qs23 q53 q1800 (by decide +kernel) hm rfl rfl hl.1 rfl (Nat.le_of_ble_eq_true rfl) dX2_grade_17 ⟨Nat.le_of_ble_eq_true rfl, Nat.le_of_ble_eq_true rfl⟩ ⟨Nat.le_refl _, Nat.le_refl _⟩) hS (fun r_25 σ_27 H locs hP_26 hS => ?_)
    obtain ⟨rfl, rfl⟩ := hP_26
    refine ti_const C.1 C.2.1 dX2_grade_20 ?_
    refine ti_isub C.1 C.2.1 dX2_grade_21 ?_
    refine tl_ci (t_S (n := 3) C hml hS (m2_isIn l X σ_1 (pl) (0) (((M1.2 0 (3 * b)) - 1)) (by omega)) q1782 q1783 q53 q1784 (by decide +kernel) rfl hl.1 rfl (Nat.le_of_ble_eq_true rfl) dX2_grade_22 ⟨Nat.le_of_ble_eq_true rfl, Nat.le_of_ble_eq_true rfl⟩ ⟨Nat.le_refl _, Nat.le_refl _⟩) hS (fun r_28 σ_30 H locs hP_29 hS => ?_)
    obtain ⟨rfl, rfl⟩ := hP_29
    refine ti_tb_eq (tgt := 37) C.1 C.2.1 dX2_grade_25 (by decide) (fun hc_31 => ?_) (fun hc_31 => ?_)
    · skip
      refine lv_aload_n C.1 C.2.1 dX2_grade_37 rfl (lv_at hl 0 rfl) ?_
      refine ti_const C.1 C.2.1 dX2_grade_38 ?_
      refine tl_ci (t_V (n := 1) (ci := 8) C hml hS (m2_fail l X σ_1 mo ad M1 ⟨hm, h0, h1, h2, h3, h4, h5, hd⟩ (1)) q1785 q1787 qs21 q53 q1788 (by decide +kernel) hm rfl rfl hl.1 rfl (Nat.le_of_ble_eq_true rfl) dX2_grade_39 ⟨Nat.le_of_ble_eq_true rfl, Nat.le_of_ble_eq_true rfl⟩ ⟨Nat.le_refl _, Nat.le_refl _⟩) hS (fun r_32 σ_34 H locs hP_33 hS => ?_)
      obtain ⟨rfl, hM_35, hfr9⟩ := hP_33
      have hfr := hfr.trans hfr9
      obtain ⟨hm_36, hm_37, hm_38, hm_39, hm_40, hm_41, hm_42, hd⟩ := id hM_35
      exact r_i C hr hlk hS (by rw [show mGrade M1 b pl = (0, (mset M1 0 (1))) from by (unfold mGrade; (repeat (first | rw [if_pos (by omega)] | rw [if_neg (by omega)])); try rfl)]; exact ⟨rfl, ⟨hm_36, hm_37, hm_38, hm_39, hm_40, hm_41, hm_42, hd⟩, hfr⟩) dX2_grade_42
    · skip
      refine lv_aload_n C.1 C.2.1 dX2_grade_28 rfl (lv_at hl 0 rfl) ?_
      refine lv_iload_n C.1 C.2.1 dX2_grade_29 rfl (lv_at hl 1 rfl) ?_
      refine lv_iload_n C.1 C.2.1 dX2_grade_30 rfl (lv_at hl 2 rfl) ?_
      refine tl_ci (t_V (n := 2) (ci := 8) C hml hS (m2_gradeAt l X σ_1 mo ad M1 hM1 hI1 (b) (pl) (by omega)) q1837 q1839 qs29 q53 q1840 (by decide +kernel) hm rfl rfl hl.1 rfl (Nat.le_of_ble_eq_true rfl) dX2_grade_31 ⟨Nat.le_of_ble_eq_true rfl, Nat.le_of_ble_eq_true rfl⟩ ⟨Nat.le_refl _, Nat.le_refl _⟩) hS (fun r_43 σ_45 H locs hP_44 hS => ?_)
      obtain ⟨rfl, rfl⟩ := hP_44
      refine lv_goto (tgt := 42) C.1 C.2.1 dX2_grade_34 (by decide) ?_
      exact r_i C hr hlk hS (by rw [show mGrade M1 b pl = (mGradeAt M1 b pl, M1) from by (unfold mGrade; (repeat (first | rw [if_pos (by omega)] | rw [if_neg (by omega)])); try rfl)]; exact ⟨rfl, ⟨hm, h0, h1, h2, h3, h4, h5, hd⟩, hfr⟩) dX2_grade_42

set_option maxHeartbeats 4000000 in
theorem m2_earliest (l : Launch) (X : tl_X) (σ : tl_H) (mo : Nat) (ad : Nat → Nat) (M : mS) (hM : MD X σ mo ad M) (hI : mI M) (pa b : Int) (hr : -2147483648 ≤ pa ∧ pa ≤ 2147483647 ∧ -2147483648 ≤ b ∧ b ≤ 2147483647) : tl_Met l X yX2_earliest cX2_earliest 3 ((Option.some FieldType.int)) 4 (0) (0) [.ref (mo), .int (iI (pa)), .int (iI (b))] σ (tl_Qi X (fun r σ' => r = iI (mEarl (mset M 0 0) pa b).1 ∧ MD X σ' mo ad (mEarl (mset M 0 0) pa b).2 ∧ mFr σ σ')) := by
  obtain ⟨M1, eM1⟩ : ∃ z, z = mset M 0 0 := ⟨_, rfl⟩
  rw [← eM1]
  refine tl_start (by decide) (Nat.le_of_ble_eq_true rfl) (fun p e s m below meth c ls C hr hml hlk hnm hS hl => ?_)
  have hl : lv_has ls 3 [(0, .ref (mo)), (1, .int (iI (pa))), (2, .int (iI (b)))] := hl
  obtain ⟨hm, h0, h1, h2, h3, h4, h5, hd⟩ := id hM
  obtain ⟨hN, hB, hPt, hJ, hA, hWn⟩ := id hI
  have hfr : mFr σ σ := mFr.rf
  refine lv_aload_n C.1 C.2.1 dX2_earliest_0 rfl (lv_at hl 0 rfl) ?_
  refine ti_const C.1 C.2.1 dX2_earliest_1 ?_
  refine gp_X2_36_8 C hS hm rfl rfl (Nat.le_of_ble_eq_true rfl) dX2_earliest_2 (fun H locs hS => ?_)
  obtain ⟨σ_1, eσ_1⟩ : ∃ z, z = va_up σ (mo) (some (oO 8 [.int (iI (0)), .int (iI (M.1 1)), .ref (ad 0), .int (iI (M.1 2)), .ref (ad 1), .int (iI (M.1 3)), .ref (ad 2), .ref (ad 3), .int (iI (M.1 4)), .int (iI (M.1 5)), .int (iI (M.1 6)), .ref (ad 4), .ref (ad 5), .int (iI (M.1 7)), .int (iI (M.1 8))])) := ⟨_, rfl⟩
  have hS : tl_S X s σ_1 H locs := by rw [eσ_1]; exact hS
  have he_2 : σ_1 (mo) = some (oO 8 [.int (iI (0)), .int (iI (M.1 1)), .ref (ad 0), .int (iI (M.1 2)), .ref (ad 1), .int (iI (M.1 3)), .ref (ad 2), .ref (ad 3), .int (iI (M.1 4)), .int (iI (M.1 5)), .int (iI (M.1 6)), .ref (ad 4), .ref (ad 5), .int (iI (M.1 7)), .int (iI (M.1 8))]) := by rw [eσ_1]; exact up_s
  have he_3 := up_kp eσ_1 (Ne.symm (tl_neA hm h0)) h0
  have he_4 := up_kp eσ_1 (Ne.symm (tl_neA hm h1)) h1
  have he_5 := up_kp eσ_1 (Ne.symm (tl_neA hm h2)) h2
  have he_6 := up_kp eσ_1 (Ne.symm (tl_neA hm h3)) h3
  have he_7 := up_kp eσ_1 (Ne.symm (tl_neA hm h4)) h4
  have he_8 := up_kp eσ_1 (Ne.symm (tl_neA hm h5)) h5
  have hfr := hfr.up hm mK_o eσ_1
  have hM1 : MD X σ_1 mo ad M1 := by rw [eM1]; exact ⟨he_2, he_3, he_4, he_5, he_6, he_7, he_8, hd⟩
  have hI1 : mI M1 := by rw [eM1]; exact hI.t0 0 (by decide)
  obtain ⟨hm, h0, h1, h2, h3, h4, h5, hd⟩ := id hM1
  obtain ⟨hN, hB, hPt, hJ, hA, hWn⟩ := id hI1
  refine lv_aload_n C.1 C.2.1 dX2_earliest_5 rfl (lv_at hl 0 rfl) ?_
  refine lv_iload_n C.1 C.2.1 dX2_earliest_6 rfl (lv_at hl 1 rfl) ?_
  refine tl_ci (t_V (n := 1) (ci := 8) C hml hS (m2_isPart l X σ_1 mo ad M1 hM1 hI1 (pa) (by omega)) q1863 q1865 qs32 q53 q1866 (by decide +kernel) hm rfl rfl hl.1 rfl (Nat.le_of_ble_eq_true rfl) dX2_earliest_7 ⟨Nat.le_of_ble_eq_true rfl, Nat.le_of_ble_eq_true rfl⟩ ⟨Nat.le_refl _, Nat.le_refl _⟩) hS (fun r_9 σ_11 H locs hP_10 hS => ?_)
  obtain ⟨rfl, rfl⟩ := hP_10
  refine ti_tb_eq (tgt := 30) C.1 C.2.1 dX2_earliest_10 (by decide) (fun hc_12 => ?_) (fun hc_12 => ?_)
  · skip
    refine lv_aload_n C.1 C.2.1 dX2_earliest_30 rfl (lv_at hl 0 rfl) ?_
    refine ti_const C.1 C.2.1 dX2_earliest_31 ?_
    refine tl_ci (t_V (n := 1) (ci := 8) C hml hS (m2_fail l X σ_1 mo ad M1 ⟨hm, h0, h1, h2, h3, h4, h5, hd⟩ (1)) q1785 q1787 qs21 q53 q1788 (by decide +kernel) hm rfl rfl hl.1 rfl (Nat.le_of_ble_eq_true rfl) dX2_earliest_32 ⟨Nat.le_of_ble_eq_true rfl, Nat.le_of_ble_eq_true rfl⟩ ⟨Nat.le_refl _, Nat.le_refl _⟩) hS (fun r_13 σ_15 H locs hP_14 hS => ?_)
    obtain ⟨rfl, hM_16, hfr9⟩ := hP_14
    have hfr := hfr.trans hfr9
    obtain ⟨hm_17, hm_18, hm_19, hm_20, hm_21, hm_22, hm_23, hd⟩ := id hM_16
    exact r_i C hr hlk hS (by rw [show mEarl M1 pa b = (0, (mset M1 0 (1))) from by (unfold mEarl; (repeat (first | rw [if_pos (by omega)] | rw [if_neg (by omega)])); try rfl)]; exact ⟨rfl, ⟨hm_17, hm_18, hm_19, hm_20, hm_21, hm_22, hm_23, hd⟩, hfr⟩) dX2_earliest_35
  · skip
    refine lv_aload_n C.1 C.2.1 dX2_earliest_13 rfl (lv_at hl 0 rfl) ?_
    refine lv_iload_n C.1 C.2.1 dX2_earliest_14 rfl (lv_at hl 2 rfl) ?_
    refine tl_ci (t_V (n := 1) (ci := 8) C hml hS (m2_isBoard l X σ_1 mo ad M1 hM1 hI1 (b) (by omega)) q1793 q1795 qs22 q53 q1796 (by decide +kernel) hm rfl rfl hl.1 rfl (Nat.le_of_ble_eq_true rfl) dX2_earliest_15 ⟨Nat.le_of_ble_eq_true rfl, Nat.le_of_ble_eq_true rfl⟩ ⟨Nat.le_refl _, Nat.le_refl _⟩) hS (fun r_24 σ_26 H locs hP_25 hS => ?_)
    obtain ⟨rfl, rfl⟩ := hP_25
    refine ti_tb_eq (tgt := 30) C.1 C.2.1 dX2_earliest_18 (by decide) (fun hc_27 => ?_) (fun hc_27 => ?_)
    · skip
      refine lv_aload_n C.1 C.2.1 dX2_earliest_30 rfl (lv_at hl 0 rfl) ?_
      refine ti_const C.1 C.2.1 dX2_earliest_31 ?_
      refine tl_ci (t_V (n := 1) (ci := 8) C hml hS (m2_fail l X σ_1 mo ad M1 ⟨hm, h0, h1, h2, h3, h4, h5, hd⟩ (1)) q1785 q1787 qs21 q53 q1788 (by decide +kernel) hm rfl rfl hl.1 rfl (Nat.le_of_ble_eq_true rfl) dX2_earliest_32 ⟨Nat.le_of_ble_eq_true rfl, Nat.le_of_ble_eq_true rfl⟩ ⟨Nat.le_refl _, Nat.le_refl _⟩) hS (fun r_28 σ_30 H locs hP_29 hS => ?_)
      obtain ⟨rfl, hM_31, hfr9⟩ := hP_29
      have hfr := hfr.trans hfr9
      obtain ⟨hm_32, hm_33, hm_34, hm_35, hm_36, hm_37, hm_38, hd⟩ := id hM_31
      exact r_i C hr hlk hS (by rw [show mEarl M1 pa b = (0, (mset M1 0 (1))) from by (unfold mEarl; (repeat (first | rw [if_pos (by omega)] | rw [if_neg (by omega)])); try rfl)]; exact ⟨rfl, ⟨hm_32, hm_33, hm_34, hm_35, hm_36, hm_37, hm_38, hd⟩, hfr⟩) dX2_earliest_35
    · skip
      refine lv_aload_n C.1 C.2.1 dX2_earliest_21 rfl (lv_at hl 0 rfl) ?_
      refine lv_iload_n C.1 C.2.1 dX2_earliest_22 rfl (lv_at hl 1 rfl) ?_
      refine lv_iload_n C.1 C.2.1 dX2_earliest_23 rfl (lv_at hl 2 rfl) ?_
      refine tl_ci (t_V (n := 2) (ci := 8) C hml hS (m2_earliestOn l X σ_1 mo ad M1 hM1 hI1 (pa) (b) (by omega)) q1883 q1885 qs36 q53 q1886 (by decide +kernel) hm rfl rfl hl.1 rfl (Nat.le_of_ble_eq_true rfl) dX2_earliest_24 ⟨Nat.le_of_ble_eq_true rfl, Nat.le_of_ble_eq_true rfl⟩ ⟨Nat.le_refl _, Nat.le_refl _⟩) hS (fun r_39 σ_41 H locs hP_40 hS => ?_)
      obtain ⟨rfl, rfl⟩ := hP_40
      refine lv_goto (tgt := 35) C.1 C.2.1 dX2_earliest_27 (by decide) ?_
      exact r_i C hr hlk hS (by rw [show mEarl M1 pa b = (mEarliest M1 pa b, M1) from by (unfold mEarl; (repeat (first | rw [if_pos (by omega)] | rw [if_neg (by omega)])); try rfl)]; exact ⟨rfl, ⟨hm, h0, h1, h2, h3, h4, h5, hd⟩, hfr⟩) dX2_earliest_35

set_option maxHeartbeats 4000000 in
theorem m2_left (l : Launch) (X : tl_X) (σ : tl_H) (mo : Nat) (ad : Nat → Nat) (M : mS) (hM : MD X σ mo ad M) (hI : mI M) (pa : Int) (hr : -2147483648 ≤ pa ∧ pa ≤ 2147483647) : tl_Met l X yX2_left cX2_left 2 ((Option.some FieldType.int)) 4 (0) (0) [.ref (mo), .int (iI (pa))] σ (tl_Qi X (fun r σ' => r = iI (mLeft (mset M 0 0) pa).1 ∧ MD X σ' mo ad (mLeft (mset M 0 0) pa).2 ∧ mFr σ σ')) := by
  obtain ⟨M1, eM1⟩ : ∃ z, z = mset M 0 0 := ⟨_, rfl⟩
  rw [← eM1]
  refine tl_start (by decide) (Nat.le_of_ble_eq_true rfl) (fun p e s m below meth c ls C hr hml hlk hnm hS hl => ?_)
  have hl : lv_has ls 2 [(0, .ref (mo)), (1, .int (iI (pa)))] := hl
  obtain ⟨hm, h0, h1, h2, h3, h4, h5, hd⟩ := id hM
  obtain ⟨hN, hB, hPt, hJ, hA, hWn⟩ := id hI
  have hfr : mFr σ σ := mFr.rf
  refine lv_aload_n C.1 C.2.1 dX2_left_0 rfl (lv_at hl 0 rfl) ?_
  refine ti_const C.1 C.2.1 dX2_left_1 ?_
  refine gp_X2_36_8 C hS hm rfl rfl (Nat.le_of_ble_eq_true rfl) dX2_left_2 (fun H locs hS => ?_)
  obtain ⟨σ_1, eσ_1⟩ : ∃ z, z = va_up σ (mo) (some (oO 8 [.int (iI (0)), .int (iI (M.1 1)), .ref (ad 0), .int (iI (M.1 2)), .ref (ad 1), .int (iI (M.1 3)), .ref (ad 2), .ref (ad 3), .int (iI (M.1 4)), .int (iI (M.1 5)), .int (iI (M.1 6)), .ref (ad 4), .ref (ad 5), .int (iI (M.1 7)), .int (iI (M.1 8))])) := ⟨_, rfl⟩
  have hS : tl_S X s σ_1 H locs := by rw [eσ_1]; exact hS
  have he_2 : σ_1 (mo) = some (oO 8 [.int (iI (0)), .int (iI (M.1 1)), .ref (ad 0), .int (iI (M.1 2)), .ref (ad 1), .int (iI (M.1 3)), .ref (ad 2), .ref (ad 3), .int (iI (M.1 4)), .int (iI (M.1 5)), .int (iI (M.1 6)), .ref (ad 4), .ref (ad 5), .int (iI (M.1 7)), .int (iI (M.1 8))]) := by rw [eσ_1]; exact up_s
  have he_3 := up_kp eσ_1 (Ne.symm (tl_neA hm h0)) h0
  have he_4 := up_kp eσ_1 (Ne.symm (tl_neA hm h1)) h1
  have he_5 := up_kp eσ_1 (Ne.symm (tl_neA hm h2)) h2
  have he_6 := up_kp eσ_1 (Ne.symm (tl_neA hm h3)) h3
  have he_7 := up_kp eσ_1 (Ne.symm (tl_neA hm h4)) h4
  have he_8 := up_kp eσ_1 (Ne.symm (tl_neA hm h5)) h5
  have hfr := hfr.up hm mK_o eσ_1
  have hM1 : MD X σ_1 mo ad M1 := by rw [eM1]; exact ⟨he_2, he_3, he_4, he_5, he_6, he_7, he_8, hd⟩
  have hI1 : mI M1 := by rw [eM1]; exact hI.t0 0 (by decide)
  obtain ⟨hm, h0, h1, h2, h3, h4, h5, hd⟩ := id hM1
  obtain ⟨hN, hB, hPt, hJ, hA, hWn⟩ := id hI1
  refine lv_aload_n C.1 C.2.1 dX2_left_5 rfl (lv_at hl 0 rfl) ?_
  refine lv_iload_n C.1 C.2.1 dX2_left_6 rfl (lv_at hl 1 rfl) ?_
  refine tl_ci (t_V (n := 1) (ci := 8) C hml hS (m2_isPart l X σ_1 mo ad M1 hM1 hI1 (pa) (by omega)) q1863 q1865 qs32 q53 q1866 (by decide +kernel) hm rfl rfl hl.1 rfl (Nat.le_of_ble_eq_true rfl) dX2_left_7 ⟨Nat.le_of_ble_eq_true rfl, Nat.le_of_ble_eq_true rfl⟩ ⟨Nat.le_refl _, Nat.le_refl _⟩) hS (fun r_9 σ_11 H locs hP_10 hS => ?_)
  obtain ⟨rfl, rfl⟩ := hP_10
  refine ti_tb_eq (tgt := 22) C.1 C.2.1 dX2_left_10 (by decide) (fun hc_12 => ?_) (fun hc_12 => ?_)
  · skip
    refine lv_aload_n C.1 C.2.1 dX2_left_22 rfl (lv_at hl 0 rfl) ?_
    refine ti_const C.1 C.2.1 dX2_left_23 ?_
    refine tl_ci (t_V (n := 1) (ci := 8) C hml hS (m2_fail l X σ_1 mo ad M1 ⟨hm, h0, h1, h2, h3, h4, h5, hd⟩ (1)) q1785 q1787 qs21 q53 q1788 (by decide +kernel) hm rfl rfl hl.1 rfl (Nat.le_of_ble_eq_true rfl) dX2_left_24 ⟨Nat.le_of_ble_eq_true rfl, Nat.le_of_ble_eq_true rfl⟩ ⟨Nat.le_refl _, Nat.le_refl _⟩) hS (fun r_13 σ_15 H locs hP_14 hS => ?_)
    obtain ⟨rfl, hM_16, hfr9⟩ := hP_14
    have hfr := hfr.trans hfr9
    obtain ⟨hm_17, hm_18, hm_19, hm_20, hm_21, hm_22, hm_23, hd⟩ := id hM_16
    exact r_i C hr hlk hS (by rw [show mLeft M1 pa = (0, (mset M1 0 (1))) from by (unfold mLeft; (repeat (first | rw [if_pos (by omega)] | rw [if_neg (by omega)])); try rfl)]; exact ⟨rfl, ⟨hm_17, hm_18, hm_19, hm_20, hm_21, hm_22, hm_23, hd⟩, hfr⟩) dX2_left_27
  · skip
    refine lv_aload_n C.1 C.2.1 dX2_left_13 rfl (lv_at hl 0 rfl) ?_
    refine lv_iload_n C.1 C.2.1 dX2_left_14 rfl (lv_at hl 1 rfl) ?_
    refine ti_const C.1 C.2.1 dX2_left_15 ?_
    have hb_24 := hWn ((4 * pa) + 3)
    refine tl_ci (t_V (n := 2) (ci := 8) C hml hS (m2_want l X σ_1 mo ad M1 hM1 hI1 (pa) (3) (by omega)) q1817 q1819 qs28 q53 q1820 (by decide +kernel) hm rfl rfl hl.1 rfl (Nat.le_of_ble_eq_true rfl) dX2_left_16 ⟨Nat.le_of_ble_eq_true rfl, Nat.le_of_ble_eq_true rfl⟩ ⟨Nat.le_refl _, Nat.le_refl _⟩) hS (fun r_25 σ_27 H locs hP_26 hS => ?_)
    obtain ⟨rfl, rfl⟩ := hP_26
    refine lv_goto (tgt := 27) C.1 C.2.1 dX2_left_19 (by decide) ?_
    exact r_i C hr hlk hS (by rw [show mLeft M1 pa = ((M1.2 2 ((4 * pa) + 3)), M1) from by (unfold mLeft; (repeat (first | rw [if_pos (by omega)] | rw [if_neg (by omega)])); try rfl)]; exact ⟨rfl, ⟨hm, h0, h1, h2, h3, h4, h5, hd⟩, hfr⟩) dX2_left_27

set_option maxHeartbeats 4000000 in
theorem m2_pieces (l : Launch) (X : tl_X) (σ : tl_H) (mo : Nat) (ad : Nat → Nat) (M : mS) (hM : MD X σ mo ad M) (hI : mI M) (b : Int) (hr : -2147483648 ≤ b ∧ b ≤ 2147483647) : tl_Met l X yX2_pieces cX2_pieces 2 ((Option.some FieldType.int)) 4 (0) (0) [.ref (mo), .int (iI (b))] σ (tl_Qi X (fun r σ' => r = iI (mPiecesOn (mset M 0 0) b).1 ∧ MD X σ' mo ad (mPiecesOn (mset M 0 0) b).2 ∧ mFr σ σ')) := by
  obtain ⟨M1, eM1⟩ : ∃ z, z = mset M 0 0 := ⟨_, rfl⟩
  rw [← eM1]
  refine tl_start (by decide) (Nat.le_of_ble_eq_true rfl) (fun p e s m below meth c ls C hr hml hlk hnm hS hl => ?_)
  have hl : lv_has ls 2 [(0, .ref (mo)), (1, .int (iI (b)))] := hl
  obtain ⟨hm, h0, h1, h2, h3, h4, h5, hd⟩ := id hM
  obtain ⟨hN, hB, hPt, hJ, hA, hWn⟩ := id hI
  have hfr : mFr σ σ := mFr.rf
  refine lv_aload_n C.1 C.2.1 dX2_pieces_0 rfl (lv_at hl 0 rfl) ?_
  refine ti_const C.1 C.2.1 dX2_pieces_1 ?_
  refine gp_X2_36_8 C hS hm rfl rfl (Nat.le_of_ble_eq_true rfl) dX2_pieces_2 (fun H locs hS => ?_)
  obtain ⟨σ_1, eσ_1⟩ : ∃ z, z = va_up σ (mo) (some (oO 8 [.int (iI (0)), .int (iI (M.1 1)), .ref (ad 0), .int (iI (M.1 2)), .ref (ad 1), .int (iI (M.1 3)), .ref (ad 2), .ref (ad 3), .int (iI (M.1 4)), .int (iI (M.1 5)), .int (iI (M.1 6)), .ref (ad 4), .ref (ad 5), .int (iI (M.1 7)), .int (iI (M.1 8))])) := ⟨_, rfl⟩
  have hS : tl_S X s σ_1 H locs := by rw [eσ_1]; exact hS
  have he_2 : σ_1 (mo) = some (oO 8 [.int (iI (0)), .int (iI (M.1 1)), .ref (ad 0), .int (iI (M.1 2)), .ref (ad 1), .int (iI (M.1 3)), .ref (ad 2), .ref (ad 3), .int (iI (M.1 4)), .int (iI (M.1 5)), .int (iI (M.1 6)), .ref (ad 4), .ref (ad 5), .int (iI (M.1 7)), .int (iI (M.1 8))]) := by rw [eσ_1]; exact up_s
  have he_3 := up_kp eσ_1 (Ne.symm (tl_neA hm h0)) h0
  have he_4 := up_kp eσ_1 (Ne.symm (tl_neA hm h1)) h1
  have he_5 := up_kp eσ_1 (Ne.symm (tl_neA hm h2)) h2
  have he_6 := up_kp eσ_1 (Ne.symm (tl_neA hm h3)) h3
  have he_7 := up_kp eσ_1 (Ne.symm (tl_neA hm h4)) h4
  have he_8 := up_kp eσ_1 (Ne.symm (tl_neA hm h5)) h5
  have hfr := hfr.up hm mK_o eσ_1
  have hM1 : MD X σ_1 mo ad M1 := by rw [eM1]; exact ⟨he_2, he_3, he_4, he_5, he_6, he_7, he_8, hd⟩
  have hI1 : mI M1 := by rw [eM1]; exact hI.t0 0 (by decide)
  obtain ⟨hm, h0, h1, h2, h3, h4, h5, hd⟩ := id hM1
  obtain ⟨hN, hB, hPt, hJ, hA, hWn⟩ := id hI1
  refine lv_aload_n C.1 C.2.1 dX2_pieces_5 rfl (lv_at hl 0 rfl) ?_
  refine lv_iload_n C.1 C.2.1 dX2_pieces_6 rfl (lv_at hl 1 rfl) ?_
  refine tl_ci (t_V (n := 1) (ci := 8) C hml hS (m2_isBoard l X σ_1 mo ad M1 hM1 hI1 (b) (by omega)) q1793 q1795 qs22 q53 q1796 (by decide +kernel) hm rfl rfl hl.1 rfl (Nat.le_of_ble_eq_true rfl) dX2_pieces_7 ⟨Nat.le_of_ble_eq_true rfl, Nat.le_of_ble_eq_true rfl⟩ ⟨Nat.le_refl _, Nat.le_refl _⟩) hS (fun r_9 σ_11 H locs hP_10 hS => ?_)
  obtain ⟨rfl, rfl⟩ := hP_10
  refine ti_tb_eq (tgt := 21) C.1 C.2.1 dX2_pieces_10 (by decide) (fun hc_12 => ?_) (fun hc_12 => ?_)
  · skip
    refine lv_aload_n C.1 C.2.1 dX2_pieces_21 rfl (lv_at hl 0 rfl) ?_
    refine ti_const C.1 C.2.1 dX2_pieces_22 ?_
    refine tl_ci (t_V (n := 1) (ci := 8) C hml hS (m2_fail l X σ_1 mo ad M1 ⟨hm, h0, h1, h2, h3, h4, h5, hd⟩ (1)) q1785 q1787 qs21 q53 q1788 (by decide +kernel) hm rfl rfl hl.1 rfl (Nat.le_of_ble_eq_true rfl) dX2_pieces_23 ⟨Nat.le_of_ble_eq_true rfl, Nat.le_of_ble_eq_true rfl⟩ ⟨Nat.le_refl _, Nat.le_refl _⟩) hS (fun r_13 σ_15 H locs hP_14 hS => ?_)
    obtain ⟨rfl, hM_16, hfr9⟩ := hP_14
    have hfr := hfr.trans hfr9
    obtain ⟨hm_17, hm_18, hm_19, hm_20, hm_21, hm_22, hm_23, hd⟩ := id hM_16
    exact r_i C hr hlk hS (by rw [show mPiecesOn M1 b = (0, (mset M1 0 (1))) from by (unfold mPiecesOn; (repeat (first | rw [if_pos (by omega)] | rw [if_neg (by omega)])); try rfl)]; exact ⟨rfl, ⟨hm_17, hm_18, hm_19, hm_20, hm_21, hm_22, hm_23, hd⟩, hfr⟩) dX2_pieces_26
  · skip
    refine lv_aload_n C.1 C.2.1 dX2_pieces_13 rfl (lv_at hl 0 rfl) ?_
    refine lv_iload_n C.1 C.2.1 dX2_pieces_14 rfl (lv_at hl 1 rfl) ?_
    refine tl_ci (t_V (n := 1) (ci := 8) C hml hS (m2_piecesOf l X σ_1 mo ad M1 hM1 hI1 (b) (by omega)) q1935 q1937 qs43 q53 q1938 (by decide +kernel) hm rfl rfl hl.1 rfl (Nat.le_of_ble_eq_true rfl) dX2_pieces_15 ⟨Nat.le_of_ble_eq_true rfl, Nat.le_of_ble_eq_true rfl⟩ ⟨Nat.le_refl _, Nat.le_refl _⟩) hS (fun r_24 σ_26 H locs hP_25 hS => ?_)
    obtain ⟨rfl, rfl⟩ := hP_25
    refine lv_goto (tgt := 26) C.1 C.2.1 dX2_pieces_18 (by decide) ?_
    exact r_i C hr hlk hS (by rw [show mPiecesOn M1 b = (mPieces M1 b, M1) from by (unfold mPiecesOn; (repeat (first | rw [if_pos (by omega)] | rw [if_neg (by omega)])); try rfl)]; exact ⟨rfl, ⟨hm, h0, h1, h2, h3, h4, h5, hd⟩, hfr⟩) dX2_pieces_26

theorem gp_X2_60_8 {p : Program} {l : Launch} {e : Env} {R : Room} {s : State} {m : MethodId} {args : Array Value} {below : List Frame} {meth : Method} {c : Code} {H : Heap} {locs : List Loc} {cells slots : Nat} {Q : State → Prop} {cc : ByteArray} {pc : Nat} {ls : Array Slot} {rest : List Value} {X : tl_X} {σ : tl_H} {a : Nat} {fs : List Value} {v : Value} (C : tl_C X p s m args c cc RX2) (hS : tl_S X s σ H locs) (he : σ a = some (oO 8 fs)) (hn : narrow (tyX2 3) v = v) (hfit : fits (tyX2 3) v = true) (hl : 3 < fs.length) (hdg : decode cc pc = .ok (.putfield 60, 3)) (kk : ∀ (H1 : Heap) (locs1 : List Loc), tl_S X s (va_up σ a (some (oO 8 (fs.set 3 v)))) H1 locs1 → W p l e R s m args below meth c H1 locs1 cells slots Q (F0 m (pc + 3) ls rest)) : W p l e R s m args below meth c H locs cells slots Q (F0 m pc ls (v :: .ref a :: rest)) :=
  h_put (ref := "TimberListModel") C hS in_X2 tyX2 tyX2_ok nmX2 rfl 3 (by decide) q1730 (fun _ h => h) rfl (by decide) he hn hfit hl hdg kk
set_option maxHeartbeats 4000000 in
theorem m2_addDefect (l : Launch) (X : tl_X) (σ : tl_H) (mo : Nat) (ad : Nat → Nat) (M : mS) (hM : MD X σ mo ad M) (hI : mI M) (b fr t g : Int) (hr : -2147483648 ≤ b ∧ b ≤ 2147483647 ∧ -2147483648 ≤ fr ∧ fr ≤ 2147483647 ∧ -2147483648 ≤ t ∧ t ≤ 2147483647 ∧ -2147483648 ≤ g ∧ g ≤ 2147483647) : tl_Met l X yX2_addDefect cX2_addDefect 7 ((Option.some FieldType.int)) 3 (0) (0) [.ref (mo), .int (iI (b)), .int (iI (fr)), .int (iI (t)), .int (iI (g))] σ (tl_Qi X (fun r σ' => r = iI (mAddDefect (mset M 0 0) b fr t g).1 ∧ MD X σ' mo ad (mAddDefect (mset M 0 0) b fr t g).2 ∧ mFr σ σ')) := by
  obtain ⟨M1, eM1⟩ : ∃ z, z = mset M 0 0 := ⟨_, rfl⟩
  rw [← eM1]
  refine tl_start (by decide) (Nat.le_of_ble_eq_true rfl) (fun p e s m below meth c ls C hr hml hlk hnm hS hl => ?_)
  have hl : lv_has ls 7 [(0, .ref (mo)), (1, .int (iI (b))), (2, .int (iI (fr))), (3, .int (iI (t))), (4, .int (iI (g)))] := hl
  obtain ⟨hm, h0, h1, h2, h3, h4, h5, hd⟩ := id hM
  obtain ⟨hN, hB, hPt, hJ, hA, hWn⟩ := id hI
  have hfr : mFr σ σ := mFr.rf
  refine lv_aload_n C.1 C.2.1 dX2_addDefect_0 rfl (lv_at hl 0 rfl) ?_
  refine ti_const C.1 C.2.1 dX2_addDefect_1 ?_
  refine gp_X2_36_8 C hS hm rfl rfl (Nat.le_of_ble_eq_true rfl) dX2_addDefect_2 (fun H locs hS => ?_)
  obtain ⟨σ_1, eσ_1⟩ : ∃ z, z = va_up σ (mo) (some (oO 8 [.int (iI (0)), .int (iI (M.1 1)), .ref (ad 0), .int (iI (M.1 2)), .ref (ad 1), .int (iI (M.1 3)), .ref (ad 2), .ref (ad 3), .int (iI (M.1 4)), .int (iI (M.1 5)), .int (iI (M.1 6)), .ref (ad 4), .ref (ad 5), .int (iI (M.1 7)), .int (iI (M.1 8))])) := ⟨_, rfl⟩
  have hS : tl_S X s σ_1 H locs := by rw [eσ_1]; exact hS
  have he_2 : σ_1 (mo) = some (oO 8 [.int (iI (0)), .int (iI (M.1 1)), .ref (ad 0), .int (iI (M.1 2)), .ref (ad 1), .int (iI (M.1 3)), .ref (ad 2), .ref (ad 3), .int (iI (M.1 4)), .int (iI (M.1 5)), .int (iI (M.1 6)), .ref (ad 4), .ref (ad 5), .int (iI (M.1 7)), .int (iI (M.1 8))]) := by rw [eσ_1]; exact up_s
  have he_3 := up_kp eσ_1 (Ne.symm (tl_neA hm h0)) h0
  have he_4 := up_kp eσ_1 (Ne.symm (tl_neA hm h1)) h1
  have he_5 := up_kp eσ_1 (Ne.symm (tl_neA hm h2)) h2
  have he_6 := up_kp eσ_1 (Ne.symm (tl_neA hm h3)) h3
  have he_7 := up_kp eσ_1 (Ne.symm (tl_neA hm h4)) h4
  have he_8 := up_kp eσ_1 (Ne.symm (tl_neA hm h5)) h5
  have hfr := hfr.up hm mK_o eσ_1
  have hM1 : MD X σ_1 mo ad M1 := by rw [eM1]; exact ⟨he_2, he_3, he_4, he_5, he_6, he_7, he_8, hd⟩
  have hI1 : mI M1 := by rw [eM1]; exact hI.t0 0 (by decide)
  obtain ⟨hm, h0, h1, h2, h3, h4, h5, hd⟩ := id hM1
  obtain ⟨hN, hB, hPt, hJ, hA, hWn⟩ := id hI1
  refine lv_aload_n C.1 C.2.1 dX2_addDefect_5 rfl (lv_at hl 0 rfl) ?_
  refine lv_iload_n C.1 C.2.1 dX2_addDefect_6 rfl (lv_at hl 1 rfl) ?_
  refine tl_ci (t_V (n := 1) (ci := 8) C hml hS (m2_isBoard l X σ_1 mo ad M1 hM1 hI1 (b) (by omega)) q1793 q1795 qs22 q53 q1796 (by decide +kernel) hm rfl rfl hl.1 rfl (Nat.le_of_ble_eq_true rfl) dX2_addDefect_7 ⟨Nat.le_of_ble_eq_true rfl, Nat.le_of_ble_eq_true rfl⟩ ⟨Nat.le_refl _, Nat.le_refl _⟩) hS (fun r_9 σ_11 H locs hP_10 hS => ?_)
  obtain ⟨rfl, rfl⟩ := hP_10
  refine ti_tb_ne (tgt := 19) C.1 C.2.1 dX2_addDefect_10 (by decide) (fun hc_12 => ?_) (fun hc_12 => ?_)
  · skip
    refine lv_iload_n C.1 C.2.1 dX2_addDefect_19 rfl (lv_at hl 2 rfl) ?_
    refine ti_if_lt (tgt := 47) C.1 C.2.1 dX2_addDefect_20 (by decide) ⟨by omega, by omega⟩ (fun hc_13 => ?_) (fun hc_13 => ?_)
    · skip
      refine lv_aload_n C.1 C.2.1 dX2_addDefect_47 rfl (lv_at hl 0 rfl) ?_
      refine ti_const C.1 C.2.1 dX2_addDefect_48 ?_
      refine tl_ci (t_V (n := 1) (ci := 8) C hml hS (m2_fail l X σ_1 mo ad M1 ⟨hm, h0, h1, h2, h3, h4, h5, hd⟩ (2)) q1785 q1787 qs21 q53 q1788 (by decide +kernel) hm rfl rfl hl.1 rfl (Nat.le_of_ble_eq_true rfl) dX2_addDefect_49 ⟨Nat.le_of_ble_eq_true rfl, Nat.le_of_ble_eq_true rfl⟩ ⟨Nat.le_refl _, Nat.le_refl _⟩) hS (fun r_14 σ_16 H locs hP_15 hS => ?_)
      obtain ⟨rfl, hM_17, hfr9⟩ := hP_15
      have hfr := hfr.trans hfr9
      obtain ⟨hm_18, hm_19, hm_20, hm_21, hm_22, hm_23, hm_24, hd⟩ := id hM_17
      exact r_i C hr hlk hS (by rw [show mAddDefect M1 b fr t g = (0, (mset M1 0 (2))) from by (unfold mAddDefect; (repeat (first | rw [if_pos (by omega)] | rw [if_neg (by omega)])); try rfl)]; exact ⟨rfl, ⟨hm_18, hm_19, hm_20, hm_21, hm_22, hm_23, hm_24, hd⟩, hfr⟩) dX2_addDefect_52
    · skip
      refine lv_iload_n C.1 C.2.1 dX2_addDefect_23 rfl (lv_at hl 3 rfl) ?_
      refine lv_iload_n C.1 C.2.1 dX2_addDefect_24 rfl (lv_at hl 2 rfl) ?_
      refine ti_icmp_le (tgt := 47) C.1 C.2.1 dX2_addDefect_25 (by decide) ⟨by omega, by omega⟩ ⟨by omega, by omega⟩ (fun hc_25 => ?_) (fun hc_25 => ?_)
      · skip
        refine lv_aload_n C.1 C.2.1 dX2_addDefect_47 rfl (lv_at hl 0 rfl) ?_
        refine ti_const C.1 C.2.1 dX2_addDefect_48 ?_
        refine tl_ci (t_V (n := 1) (ci := 8) C hml hS (m2_fail l X σ_1 mo ad M1 ⟨hm, h0, h1, h2, h3, h4, h5, hd⟩ (2)) q1785 q1787 qs21 q53 q1788 (by decide +kernel) hm rfl rfl hl.1 rfl (Nat.le_of_ble_eq_true rfl) dX2_addDefect_49 ⟨Nat.le_of_ble_eq_true rfl, Nat.le_of_ble_eq_true rfl⟩ ⟨Nat.le_refl _, Nat.le_refl _⟩) hS (fun r_26 σ_28 H locs hP_27 hS => ?_)
        obtain ⟨rfl, hM_29, hfr9⟩ := hP_27
        have hfr := hfr.trans hfr9
        obtain ⟨hm_30, hm_31, hm_32, hm_33, hm_34, hm_35, hm_36, hd⟩ := id hM_29
        exact r_i C hr hlk hS (by rw [show mAddDefect M1 b fr t g = (0, (mset M1 0 (2))) from by (unfold mAddDefect; (repeat (first | rw [if_pos (by omega)] | rw [if_neg (by omega)])); try rfl)]; exact ⟨rfl, ⟨hm_30, hm_31, hm_32, hm_33, hm_34, hm_35, hm_36, hd⟩, hfr⟩) dX2_addDefect_52
      · skip
        refine lv_iload_n C.1 C.2.1 dX2_addDefect_28 rfl (lv_at hl 3 rfl) ?_
        refine lv_aload_n C.1 C.2.1 dX2_addDefect_29 rfl (lv_at hl 0 rfl) ?_
        refine lv_iload_n C.1 C.2.1 dX2_addDefect_30 rfl (lv_at hl 1 rfl) ?_
        have hb_37 := hB 0 (3 * b)
        refine tl_ci (t_V (n := 1) (ci := 8) C hml hS (m2_length l X σ_1 mo ad M1 hM1 hI1 (b) (by omega)) q1797 q1799 qs23 q53 q1800 (by decide +kernel) hm rfl rfl hl.1 rfl (Nat.le_of_ble_eq_true rfl) dX2_addDefect_31 ⟨Nat.le_of_ble_eq_true rfl, Nat.le_of_ble_eq_true rfl⟩ ⟨Nat.le_refl _, Nat.le_refl _⟩) hS (fun r_38 σ_40 H locs hP_39 hS => ?_)
        obtain ⟨rfl, rfl⟩ := hP_39
        refine ti_icmp_gt (tgt := 47) C.1 C.2.1 dX2_addDefect_34 (by decide) ⟨by omega, by omega⟩ ⟨by omega, by omega⟩ (fun hc_41 => ?_) (fun hc_41 => ?_)
        · skip
          refine lv_aload_n C.1 C.2.1 dX2_addDefect_47 rfl (lv_at hl 0 rfl) ?_
          refine ti_const C.1 C.2.1 dX2_addDefect_48 ?_
          refine tl_ci (t_V (n := 1) (ci := 8) C hml hS (m2_fail l X σ_1 mo ad M1 ⟨hm, h0, h1, h2, h3, h4, h5, hd⟩ (2)) q1785 q1787 qs21 q53 q1788 (by decide +kernel) hm rfl rfl hl.1 rfl (Nat.le_of_ble_eq_true rfl) dX2_addDefect_49 ⟨Nat.le_of_ble_eq_true rfl, Nat.le_of_ble_eq_true rfl⟩ ⟨Nat.le_refl _, Nat.le_refl _⟩) hS (fun r_42 σ_44 H locs hP_43 hS => ?_)
          obtain ⟨rfl, hM_45, hfr9⟩ := hP_43
          have hfr := hfr.trans hfr9
          obtain ⟨hm_46, hm_47, hm_48, hm_49, hm_50, hm_51, hm_52, hd⟩ := id hM_45
          exact r_i C hr hlk hS (by rw [show mAddDefect M1 b fr t g = (0, (mset M1 0 (2))) from by (unfold mAddDefect; (repeat (first | rw [if_pos (by omega)] | rw [if_neg (by omega)])); try rfl)]; exact ⟨rfl, ⟨hm_46, hm_47, hm_48, hm_49, hm_50, hm_51, hm_52, hd⟩, hfr⟩) dX2_addDefect_52
        · skip
          refine lv_iload C.1 C.2.1 dX2_addDefect_37 (lv_at hl 4 rfl) ?_
          refine ti_const C.1 C.2.1 dX2_addDefect_39 ?_
          refine ti_const C.1 C.2.1 dX2_addDefect_40 ?_
          refine tl_ci (t_S (n := 3) C hml hS (m2_isIn l X σ_1 (g) (1) (3) (by omega)) q1782 q1783 q53 q1784 (by decide +kernel) rfl hl.1 rfl (Nat.le_of_ble_eq_true rfl) dX2_addDefect_41 ⟨Nat.le_of_ble_eq_true rfl, Nat.le_of_ble_eq_true rfl⟩ ⟨Nat.le_refl _, Nat.le_refl _⟩) hS (fun r_53 σ_55 H locs hP_54 hS => ?_)
          obtain ⟨rfl, rfl⟩ := hP_54
          refine ti_tb_ne (tgt := 53) C.1 C.2.1 dX2_addDefect_44 (by decide) (fun hc_56 => ?_) (fun hc_56 => ?_)
          · skip
            refine lv_aload_n C.1 C.2.1 dX2_addDefect_53 rfl (lv_at hl 0 rfl) ?_
            refine gf_X2_60_8 C hS hm rfl dX2_addDefect_54 ?_
            refine ti_bipush C.1 C.2.1 dX2_addDefect_57 (by decide) ?_
            refine ti_icmp_ne (tgt := 66) C.1 C.2.1 dX2_addDefect_59 (by decide) ⟨by omega, by omega⟩ ⟨by decide, by decide⟩ (fun hc_57 => ?_) (fun hc_57 => ?_)
            · skip
              refine ti_const C.1 C.2.1 dX2_addDefect_66 ?_
              refine lv_istore (lv' := [(5, .int (iI (0))), (0, .ref (mo)), (1, .int (iI (b))), (2, .int (iI (fr))), (3, .int (iI (t))), (4, .int (iI (g)))]) C.1 C.2.1 dX2_addDefect_67 hl (by decide) rfl (fun ls hl => ?_)
              refine ti_const C.1 C.2.1 dX2_addDefect_69 ?_
              refine lv_istore (lv' := [(6, .int (iI (0))), (5, .int (iI (0))), (0, .ref (mo)), (1, .int (iI (b))), (2, .int (iI (fr))), (3, .int (iI (t))), (4, .int (iI (g)))]) C.1 C.2.1 dX2_addDefect_70 hl (by decide) rfl (fun ls hl => ?_)
              have loop_58 : ∀ (n_59 : Nat) (q : Int) (a : Int), (0 ≤ q ∧ q ≤ M1.1 6 ∧ (a = 0 ∨ a = 1) ∧ (M1.1 2 = 24 → a = 1)) ∧ lp (mRefF M1 b fr t g) q (M1.1 6) a = mRefused M1 b fr t g → M1.1 6 - q < (n_59 : Int) → ∀ (H : Heap) (locs : List Loc) (ls : Array Slot), tl_S X s σ_1 H locs → lv_has ls 7 [(6, .int (iI (q))), (5, .int (iI (a))), (0, .ref (mo)), (1, .int (iI (b))), (2, .int (iI (fr))), (3, .int (iI (t))), (4, .int (iI (g)))] → W p l e (tl_rm 3 (0) (0)) s m ([.ref (mo), .int (iI (b)), .int (iI (fr)), .int (iI (t)), .int (iI (g))] : List Value).toArray below meth c H locs (0) (0) (MQ below (tl_Qi X (fun r σ' => r = iI (mAddDefect M1 b fr t g).1 ∧ MD X σ' mo ad (mAddDefect M1 b fr t g).2 ∧ mFr σ σ')) ([.ref (mo), .int (iI (b)), .int (iI (fr)), .int (iI (t)), .int (iI (g))] : List Value).toArray s (0) (0) (tl_A X)) (F0 m 72 ls []) := by
                intro n_59
                induction n_59 with
                | zero => intro q a hinv hms; omega
                | succ n_59 ih_60 =>
                  intro q a hinv hms_61  H locs ls hS hl
                  obtain ⟨hv, hR⟩ := hinv
                  refine lv_iload C.1 C.2.1 dX2_addDefect_72 (lv_at hl 0 rfl) ?_
                  refine lv_aload_n C.1 C.2.1 dX2_addDefect_74 rfl (lv_at hl 2 rfl) ?_
                  refine gf_X2_63_8 C hS hm rfl dX2_addDefect_75 ?_
                  refine ti_icmp_ge (tgt := 145) C.1 C.2.1 dX2_addDefect_78 (by decide) ⟨by omega, by omega⟩ ⟨by omega, by omega⟩ (fun hc_62 => ?_) (fun hc_62 => ?_)
                  · skip
                    have hR := lp_ex hR (by omega)
                    refine lv_iload C.1 C.2.1 dX2_addDefect_145 (lv_at hl 1 rfl) ?_
                    refine ti_if_eq (tgt := 156) C.1 C.2.1 dX2_addDefect_147 (by decide) ⟨by omega, by omega⟩ (fun hc_63 => ?_) (fun hc_63 => ?_)
                    · skip
                      refine lv_aload_n C.1 C.2.1 dX2_addDefect_156 rfl (lv_at hl 2 rfl) ?_
                      refine gf_X2_13_8 C hS hm rfl dX2_addDefect_157 ?_
                      refine ti_const C.1 C.2.1 dX2_addDefect_160 ?_
                      refine lv_aload_n C.1 C.2.1 dX2_addDefect_161 rfl (lv_at hl 2 rfl) ?_
                      refine gf_X2_60_8 C hS hm rfl dX2_addDefect_162 ?_
                      refine ti_imul C.1 C.2.1 dX2_addDefect_165 ?_
                      refine lv_iload_n C.1 C.2.1 dX2_addDefect_166 rfl (lv_at hl 3 rfl) ?_
                      refine h_iastZ C hS h1 (by omega) (by omega) (by omega) dX2_addDefect_167 (fun H locs hS => ?_)
                      obtain ⟨σ_64, eσ_64⟩ : ∃ z, z = va_up σ_1 (ad 1) (some (oI (X.2.2.1 0) 96 (zA (zup (M1.2 1) ((4 * M1.1 2)) (b))))) := ⟨_, rfl⟩
                      rw [← eσ_64] at hS
                      have he_65 := up_kp eσ_64 (tl_neA hm h1) hm
                      have he_66 := up_kp eσ_64 (fun z => absurd (hd 0 1 (by decide) (by decide) z) (by decide)) h0
                      have he_67 : σ_64 (ad 1) = some (oI (X.2.2.1 0) 96 (zA (zup (M1.2 1) ((4 * M1.1 2)) (b)))) := by rw [eσ_64]; exact up_s
                      have he_68 := up_kp eσ_64 (fun z => absurd (hd 2 1 (by decide) (by decide) z) (by decide)) h2
                      have he_69 := up_kp eσ_64 (fun z => absurd (hd 3 1 (by decide) (by decide) z) (by decide)) h3
                      have he_70 := up_kp eσ_64 (fun z => absurd (hd 4 1 (by decide) (by decide) z) (by decide)) h4
                      have he_71 := up_kp eσ_64 (fun z => absurd (hd 5 1 (by decide) (by decide) z) (by decide)) h5
                      have hfr := hfr.up h1 mK_i eσ_64
                      refine lv_aload_n C.1 C.2.1 dX2_addDefect_168 rfl (lv_at hl 2 rfl) ?_
                      refine gf_X2_13_8 C hS he_65 rfl dX2_addDefect_169 ?_
                      refine ti_const C.1 C.2.1 dX2_addDefect_172 ?_
                      refine lv_aload_n C.1 C.2.1 dX2_addDefect_173 rfl (lv_at hl 2 rfl) ?_
                      refine gf_X2_60_8 C hS he_65 rfl dX2_addDefect_174 ?_
                      refine ti_imul C.1 C.2.1 dX2_addDefect_177 ?_
                      refine ti_const C.1 C.2.1 dX2_addDefect_178 ?_
                      refine ti_iadd C.1 C.2.1 dX2_addDefect_179 ?_
                      refine lv_iload_n C.1 C.2.1 dX2_addDefect_180 rfl (lv_at hl 4 rfl) ?_
                      refine h_iastZ C hS he_67 (by omega) (by omega) (by omega) dX2_addDefect_181 (fun H locs hS => ?_)
                      obtain ⟨σ_72, eσ_72⟩ : ∃ z, z = va_up σ_64 (ad 1) (some (oI (X.2.2.1 0) 96 (zA (zup (zup (M1.2 1) ((4 * M1.1 2)) (b)) (((4 * M1.1 2) + 1)) (fr))))) := ⟨_, rfl⟩
                      rw [← eσ_72] at hS
                      have he_73 := up_kp eσ_72 (tl_neA he_65 he_67) he_65
                      have he_74 := up_kp eσ_72 (fun z => absurd (hd 0 1 (by decide) (by decide) z) (by decide)) he_66
                      have he_75 : σ_72 (ad 1) = some (oI (X.2.2.1 0) 96 (zA (zup (zup (M1.2 1) ((4 * M1.1 2)) (b)) (((4 * M1.1 2) + 1)) (fr)))) := by rw [eσ_72]; exact up_s
                      have he_76 := up_kp eσ_72 (fun z => absurd (hd 2 1 (by decide) (by decide) z) (by decide)) he_68
                      have he_77 := up_kp eσ_72 (fun z => absurd (hd 3 1 (by decide) (by decide) z) (by decide)) he_69
                      have he_78 := up_kp eσ_72 (fun z => absurd (hd 4 1 (by decide) (by decide) z) (by decide)) he_70
                      have he_79 := up_kp eσ_72 (fun z => absurd (hd 5 1 (by decide) (by decide) z) (by decide)) he_71
                      have hfr := hfr.up he_67 mK_i eσ_72
                      refine lv_aload_n C.1 C.2.1 dX2_addDefect_182 rfl (lv_at hl 2 rfl) ?_
                      refine gf_X2_13_8 C hS he_73 rfl dX2_addDefect_183 ?_
                      refine ti_const C.1 C.2.1 dX2_addDefect_186 ?_
                      refine lv_aload_n C.1 C.2.1 dX2_addDefect_187 rfl (lv_at hl 2 rfl) ?_
                      refine gf_X2_60_8 C hS he_73 rfl dX2_addDefect_188 ?_
                      refine ti_imul C.1 C.2.1 dX2_addDefect_191 ?_
                      refine ti_const C.1 C.2.1 dX2_addDefect_192 ?_
                      refine ti_iadd C.1 C.2.1 dX2_addDefect_193 ?_
                      refine lv_iload_n C.1 C.2.1 dX2_addDefect_194 rfl (lv_at hl 5 rfl) ?_
                      refine h_iastZ C hS he_75 (by omega) (by omega) (by omega) dX2_addDefect_195 (fun H locs hS => ?_)
                      obtain ⟨σ_80, eσ_80⟩ : ∃ z, z = va_up σ_72 (ad 1) (some (oI (X.2.2.1 0) 96 (zA (zup (zup (zup (M1.2 1) ((4 * M1.1 2)) (b)) (((4 * M1.1 2) + 1)) (fr)) (((4 * M1.1 2) + 2)) (t))))) := ⟨_, rfl⟩
                      rw [← eσ_80] at hS
                      have he_81 := up_kp eσ_80 (tl_neA he_73 he_75) he_73
                      have he_82 := up_kp eσ_80 (fun z => absurd (hd 0 1 (by decide) (by decide) z) (by decide)) he_74
                      have he_83 : σ_80 (ad 1) = some (oI (X.2.2.1 0) 96 (zA (zup (zup (zup (M1.2 1) ((4 * M1.1 2)) (b)) (((4 * M1.1 2) + 1)) (fr)) (((4 * M1.1 2) + 2)) (t)))) := by rw [eσ_80]; exact up_s
                      have he_84 := up_kp eσ_80 (fun z => absurd (hd 2 1 (by decide) (by decide) z) (by decide)) he_76
                      have he_85 := up_kp eσ_80 (fun z => absurd (hd 3 1 (by decide) (by decide) z) (by decide)) he_77
                      have he_86 := up_kp eσ_80 (fun z => absurd (hd 4 1 (by decide) (by decide) z) (by decide)) he_78
                      have he_87 := up_kp eσ_80 (fun z => absurd (hd 5 1 (by decide) (by decide) z) (by decide)) he_79
                      have hfr := hfr.up he_75 mK_i eσ_80
                      refine lv_aload_n C.1 C.2.1 dX2_addDefect_196 rfl (lv_at hl 2 rfl) ?_
                      refine gf_X2_13_8 C hS he_81 rfl dX2_addDefect_197 ?_
                      refine ti_const C.1 C.2.1 dX2_addDefect_200 ?_
                      refine lv_aload_n C.1 C.2.1 dX2_addDefect_201 rfl (lv_at hl 2 rfl) ?_
                      refine gf_X2_60_8 C hS he_81 rfl dX2_addDefect_202 ?_
                      refine ti_imul C.1 C.2.1 dX2_addDefect_205 ?_
                      refine ti_const C.1 C.2.1 dX2_addDefect_206 ?_
                      refine ti_iadd C.1 C.2.1 dX2_addDefect_207 ?_
                      refine lv_iload C.1 C.2.1 dX2_addDefect_208 (lv_at hl 6 rfl) ?_
                      refine h_iastZ C hS he_83 (by omega) (by omega) (by omega) dX2_addDefect_210 (fun H locs hS => ?_)
                      obtain ⟨σ_88, eσ_88⟩ : ∃ z, z = va_up σ_80 (ad 1) (some (oI (X.2.2.1 0) 96 (zA (zup (zup (zup (zup (M1.2 1) ((4 * M1.1 2)) (b)) (((4 * M1.1 2) + 1)) (fr)) (((4 * M1.1 2) + 2)) (t)) (((4 * M1.1 2) + 3)) (g))))) := ⟨_, rfl⟩
                      rw [← eσ_88] at hS
                      have he_89 := up_kp eσ_88 (tl_neA he_81 he_83) he_81
                      have he_90 := up_kp eσ_88 (fun z => absurd (hd 0 1 (by decide) (by decide) z) (by decide)) he_82
                      have he_91 : σ_88 (ad 1) = some (oI (X.2.2.1 0) 96 (zA (zup (zup (zup (zup (M1.2 1) ((4 * M1.1 2)) (b)) (((4 * M1.1 2) + 1)) (fr)) (((4 * M1.1 2) + 2)) (t)) (((4 * M1.1 2) + 3)) (g)))) := by rw [eσ_88]; exact up_s
                      have he_92 := up_kp eσ_88 (fun z => absurd (hd 2 1 (by decide) (by decide) z) (by decide)) he_84
                      have he_93 := up_kp eσ_88 (fun z => absurd (hd 3 1 (by decide) (by decide) z) (by decide)) he_85
                      have he_94 := up_kp eσ_88 (fun z => absurd (hd 4 1 (by decide) (by decide) z) (by decide)) he_86
                      have he_95 := up_kp eσ_88 (fun z => absurd (hd 5 1 (by decide) (by decide) z) (by decide)) he_87
                      have hfr := hfr.up he_83 mK_i eσ_88
                      refine lv_aload_n C.1 C.2.1 dX2_addDefect_211 rfl (lv_at hl 2 rfl) ?_
                      refine lv_dup C.1 C.2.1 dX2_addDefect_212 rfl ?_
                      refine gf_X2_60_8 C hS he_89 rfl dX2_addDefect_213 ?_
                      refine ti_const C.1 C.2.1 dX2_addDefect_216 ?_
                      refine ti_iadd C.1 C.2.1 dX2_addDefect_217 ?_
                      refine gp_X2_60_8 C hS he_89 rfl rfl (Nat.le_of_ble_eq_true rfl) dX2_addDefect_218 (fun H locs hS => ?_)
                      obtain ⟨σ_96, eσ_96⟩ : ∃ z, z = va_up σ_88 (mo) (some (oO 8 [.int (iI (M1.1 0)), .int (iI (M1.1 1)), .ref (ad 0), .int (iI ((M1.1 2 + 1))), .ref (ad 1), .int (iI (M1.1 3)), .ref (ad 2), .ref (ad 3), .int (iI (M1.1 4)), .int (iI (M1.1 5)), .int (iI (M1.1 6)), .ref (ad 4), .ref (ad 5), .int (iI (M1.1 7)), .int (iI (M1.1 8))])) := ⟨_, rfl⟩
                      have hS : tl_S X s σ_96 H locs := by rw [eσ_96]; exact hS
                      have he_97 : σ_96 (mo) = some (oO 8 [.int (iI (M1.1 0)), .int (iI (M1.1 1)), .ref (ad 0), .int (iI ((M1.1 2 + 1))), .ref (ad 1), .int (iI (M1.1 3)), .ref (ad 2), .ref (ad 3), .int (iI (M1.1 4)), .int (iI (M1.1 5)), .int (iI (M1.1 6)), .ref (ad 4), .ref (ad 5), .int (iI (M1.1 7)), .int (iI (M1.1 8))]) := by rw [eσ_96]; exact up_s
                      have he_98 := up_kp eσ_96 (Ne.symm (tl_neA he_89 he_90)) he_90
                      have he_99 := up_kp eσ_96 (Ne.symm (tl_neA he_89 he_91)) he_91
                      have he_100 := up_kp eσ_96 (Ne.symm (tl_neA he_89 he_92)) he_92
                      have he_101 := up_kp eσ_96 (Ne.symm (tl_neA he_89 he_93)) he_93
                      have he_102 := up_kp eσ_96 (Ne.symm (tl_neA he_89 he_94)) he_94
                      have he_103 := up_kp eσ_96 (Ne.symm (tl_neA he_89 he_95)) he_95
                      have hfr := hfr.up he_89 mK_o eσ_96
                      refine lv_aload_n C.1 C.2.1 dX2_addDefect_221 rfl (lv_at hl 2 rfl) ?_
                      refine gf_X2_60_8 C hS he_97 rfl dX2_addDefect_222 ?_
                      exact r_i C hr hlk hS (by rw [show mAddDefect M1 b fr t g = ((M1.1 2 + 1), (mset (aset (aset (aset (aset M1 1 ((4 * M1.1 2)) (b)) 1 (((4 * M1.1 2) + 1)) (fr)) 1 (((4 * M1.1 2) + 2)) (t)) 1 (((4 * M1.1 2) + 3)) (g)) 2 ((M1.1 2 + 1)))) from by (unfold mAddDefect; (repeat (first | rw [if_pos (by omega)] | rw [if_neg (by omega)])); try rfl)]; exact ⟨rfl, ⟨he_97, he_98, he_99, he_100, he_101, he_102, he_103, hd⟩, hfr⟩) dX2_addDefect_225
                    · skip
                      refine lv_aload_n C.1 C.2.1 dX2_addDefect_150 rfl (lv_at hl 2 rfl) ?_
                      refine ti_const C.1 C.2.1 dX2_addDefect_151 ?_
                      refine tl_ci (t_V (n := 1) (ci := 8) C hml hS (m2_fail l X σ_1 mo ad M1 ⟨hm, h0, h1, h2, h3, h4, h5, hd⟩ (3)) q1785 q1787 qs21 q53 q1788 (by decide +kernel) hm rfl rfl hl.1 rfl (Nat.le_of_ble_eq_true rfl) dX2_addDefect_152 ⟨Nat.le_of_ble_eq_true rfl, Nat.le_of_ble_eq_true rfl⟩ ⟨Nat.le_refl _, Nat.le_refl _⟩) hS (fun r_104 σ_106 H locs hP_105 hS => ?_)
                      obtain ⟨rfl, hM_107, hfr9⟩ := hP_105
                      have hfr := hfr.trans hfr9
                      obtain ⟨hm_108, hm_109, hm_110, hm_111, hm_112, hm_113, hm_114, hd⟩ := id hM_107
                      exact r_i C hr hlk hS (by rw [show mAddDefect M1 b fr t g = (0, (mset M1 0 (3))) from by (unfold mAddDefect; (repeat (first | rw [if_pos (by omega)] | rw [if_neg (by omega)])); try rfl)]; exact ⟨rfl, ⟨hm_108, hm_109, hm_110, hm_111, hm_112, hm_113, hm_114, hd⟩, hfr⟩) dX2_addDefect_155
                  · skip
                    refine lv_iload C.1 C.2.1 dX2_addDefect_81 (lv_at hl 1 rfl) ?_
                    refine ti_if_ne (tgt := 132) C.1 C.2.1 dX2_addDefect_83 (by decide) ⟨by omega, by omega⟩ (fun hc_115 => ?_) (fun hc_115 => ?_)
                    · skip
                      refine ti_const C.1 C.2.1 dX2_addDefect_132 ?_
                      refine lv_goto (tgt := 137) C.1 C.2.1 dX2_addDefect_133 (by decide) ?_
                      refine lv_istore (lv' := [(5, .int (iI (1))), (6, .int (iI (q))), (0, .ref (mo)), (1, .int (iI (b))), (2, .int (iI (fr))), (3, .int (iI (t))), (4, .int (iI (g)))]) C.1 C.2.1 dX2_addDefect_137 hl (by decide) rfl (fun ls hl => ?_)
                      refine ti_iinc (lv' := [(6, .int (iI ((q + 1)))), (5, .int (iI (1))), (0, .ref (mo)), (1, .int (iI (b))), (2, .int (iI (fr))), (3, .int (iI (t))), (4, .int (iI (g)))]) C.1 C.2.1 dX2_addDefect_139 hl (k := 1) rfl (by decide) rfl (fun ls hl => ?_)
                      refine lv_goto (tgt := 72) C.1 C.2.1 dX2_addDefect_142 (by decide) ?_
                      exact ih_60 ((q + 1)) (1) ⟨by omega, lp_bk hR (by omega) (by unfold mRefF; split <;> omega)⟩ (by omega) _ _ _ hS (lv_sub hl [0, 1, 2, 3, 4, 5, 6] rfl)
                    · skip
                      refine lv_aload_n C.1 C.2.1 dX2_addDefect_86 rfl (lv_at hl 2 rfl) ?_
                      refine lv_iload C.1 C.2.1 dX2_addDefect_87 (lv_at hl 0 rfl) ?_
                      refine lv_iload_n C.1 C.2.1 dX2_addDefect_89 rfl (lv_at hl 3 rfl) ?_
                      refine tl_ci (t_V (n := 2) (ci := 8) C hml hS (m2_isOn l X σ_1 mo ad M1 hM1 hI1 (q) (b) (by omega)) q1801 q1803 qs24 q53 q1804 (by decide +kernel) hm rfl rfl hl.1 rfl (Nat.le_of_ble_eq_true rfl) dX2_addDefect_90 ⟨Nat.le_of_ble_eq_true rfl, Nat.le_of_ble_eq_true rfl⟩ ⟨Nat.le_refl _, Nat.le_refl _⟩) hS (fun r_116 σ_118 H locs hP_117 hS => ?_)
                      obtain ⟨rfl, rfl⟩ := hP_117
                      refine ti_tb_eq (tgt := 136) C.1 C.2.1 dX2_addDefect_93 (by decide) (fun hc_119 => ?_) (fun hc_119 => ?_)
                      · skip
                        refine ti_const C.1 C.2.1 dX2_addDefect_136 ?_
                        refine lv_istore (lv' := [(5, .int (iI (0))), (6, .int (iI (q))), (0, .ref (mo)), (1, .int (iI (b))), (2, .int (iI (fr))), (3, .int (iI (t))), (4, .int (iI (g)))]) C.1 C.2.1 dX2_addDefect_137 hl (by decide) rfl (fun ls hl => ?_)
                        refine ti_iinc (lv' := [(6, .int (iI ((q + 1)))), (5, .int (iI (0))), (0, .ref (mo)), (1, .int (iI (b))), (2, .int (iI (fr))), (3, .int (iI (t))), (4, .int (iI (g)))]) C.1 C.2.1 dX2_addDefect_139 hl (k := 1) rfl (by decide) rfl (fun ls hl => ?_)
                        refine lv_goto (tgt := 72) C.1 C.2.1 dX2_addDefect_142 (by decide) ?_
                        exact ih_60 ((q + 1)) (0) ⟨by omega, lp_bk hR (by omega) (by unfold mRefF; split <;> omega)⟩ (by omega) _ _ _ hS (lv_sub hl [0, 1, 2, 3, 4, 5, 6] rfl)
                      · skip
                        refine lv_aload_n C.1 C.2.1 dX2_addDefect_96 rfl (lv_at hl 2 rfl) ?_
                        refine lv_iload C.1 C.2.1 dX2_addDefect_97 (lv_at hl 0 rfl) ?_
                        have hb_120 := hB 4 ((4 * q) + 1)
                        refine tl_ci (t_V (n := 1) (ci := 8) C hml hS (m2_from l X σ_1 mo ad M1 hM1 hI1 (q) (by omega)) q1805 q1807 qs25 q53 q1808 (by decide +kernel) hm rfl rfl hl.1 rfl (Nat.le_of_ble_eq_true rfl) dX2_addDefect_99 ⟨Nat.le_of_ble_eq_true rfl, Nat.le_of_ble_eq_true rfl⟩ ⟨Nat.le_refl _, Nat.le_refl _⟩) hS (fun r_121 σ_123 H locs hP_122 hS => ?_)
                        obtain ⟨rfl, rfl⟩ := hP_122
                        refine lv_iload_n C.1 C.2.1 dX2_addDefect_102 rfl (lv_at hl 5 rfl) ?_
                        refine ti_icmp_ge (tgt := 136) C.1 C.2.1 dX2_addDefect_103 (by decide) ⟨by omega, by omega⟩ ⟨by omega, by omega⟩ (fun hc_124 => ?_) (fun hc_124 => ?_)
                        · skip
                          refine ti_const C.1 C.2.1 dX2_addDefect_136 ?_
                          refine lv_istore (lv' := [(5, .int (iI (0))), (6, .int (iI (q))), (0, .ref (mo)), (1, .int (iI (b))), (2, .int (iI (fr))), (3, .int (iI (t))), (4, .int (iI (g)))]) C.1 C.2.1 dX2_addDefect_137 hl (by decide) rfl (fun ls hl => ?_)
                          refine ti_iinc (lv' := [(6, .int (iI ((q + 1)))), (5, .int (iI (0))), (0, .ref (mo)), (1, .int (iI (b))), (2, .int (iI (fr))), (3, .int (iI (t))), (4, .int (iI (g)))]) C.1 C.2.1 dX2_addDefect_139 hl (k := 1) rfl (by decide) rfl (fun ls hl => ?_)
                          refine lv_goto (tgt := 72) C.1 C.2.1 dX2_addDefect_142 (by decide) ?_
                          exact ih_60 ((q + 1)) (0) ⟨by omega, lp_bk hR (by omega) (by unfold mRefF; split <;> omega)⟩ (by omega) _ _ _ hS (lv_sub hl [0, 1, 2, 3, 4, 5, 6] rfl)
                        · skip
                          refine lv_iload_n C.1 C.2.1 dX2_addDefect_106 rfl (lv_at hl 4 rfl) ?_
                          refine lv_aload_n C.1 C.2.1 dX2_addDefect_107 rfl (lv_at hl 2 rfl) ?_
                          refine lv_iload C.1 C.2.1 dX2_addDefect_108 (lv_at hl 0 rfl) ?_
                          have hb_125 := hB 4 ((4 * q) + 2)
                          refine tl_ci (t_V (n := 1) (ci := 8) C hml hS (m2_to l X σ_1 mo ad M1 hM1 hI1 (q) (by omega)) q1809 q1811 qs26 q53 q1812 (by decide +kernel) hm rfl rfl hl.1 rfl (Nat.le_of_ble_eq_true rfl) dX2_addDefect_110 ⟨Nat.le_of_ble_eq_true rfl, Nat.le_of_ble_eq_true rfl⟩ ⟨Nat.le_refl _, Nat.le_refl _⟩) hS (fun r_126 σ_128 H locs hP_127 hS => ?_)
                          obtain ⟨rfl, rfl⟩ := hP_127
                          refine ti_icmp_ge (tgt := 136) C.1 C.2.1 dX2_addDefect_113 (by decide) ⟨by omega, by omega⟩ ⟨by omega, by omega⟩ (fun hc_129 => ?_) (fun hc_129 => ?_)
                          · skip
                            refine ti_const C.1 C.2.1 dX2_addDefect_136 ?_
                            refine lv_istore (lv' := [(5, .int (iI (0))), (6, .int (iI (q))), (0, .ref (mo)), (1, .int (iI (b))), (2, .int (iI (fr))), (3, .int (iI (t))), (4, .int (iI (g)))]) C.1 C.2.1 dX2_addDefect_137 hl (by decide) rfl (fun ls hl => ?_)
                            refine ti_iinc (lv' := [(6, .int (iI ((q + 1)))), (5, .int (iI (0))), (0, .ref (mo)), (1, .int (iI (b))), (2, .int (iI (fr))), (3, .int (iI (t))), (4, .int (iI (g)))]) C.1 C.2.1 dX2_addDefect_139 hl (k := 1) rfl (by decide) rfl (fun ls hl => ?_)
                            refine lv_goto (tgt := 72) C.1 C.2.1 dX2_addDefect_142 (by decide) ?_
                            exact ih_60 ((q + 1)) (0) ⟨by omega, lp_bk hR (by omega) (by unfold mRefF; split <;> omega)⟩ (by omega) _ _ _ hS (lv_sub hl [0, 1, 2, 3, 4, 5, 6] rfl)
                          · skip
                            refine lv_iload C.1 C.2.1 dX2_addDefect_116 (lv_at hl 6 rfl) ?_
                            refine lv_aload_n C.1 C.2.1 dX2_addDefect_118 rfl (lv_at hl 2 rfl) ?_
                            refine lv_aload_n C.1 C.2.1 dX2_addDefect_119 rfl (lv_at hl 2 rfl) ?_
                            refine lv_iload C.1 C.2.1 dX2_addDefect_120 (lv_at hl 0 rfl) ?_
                            have hb_130 := hB 4 ((4 * q) + 3)
                            have hpt_131 := hPt (q) (by omega) (by omega)
                            refine tl_ci (t_V (n := 1) (ci := 8) C hml hS (m2_partOf l X σ_1 mo ad M1 hM1 hI1 (q) (by omega)) q1813 q1815 qs27 q53 q1816 (by decide +kernel) hm rfl rfl hl.1 rfl (Nat.le_of_ble_eq_true rfl) dX2_addDefect_122 ⟨Nat.le_of_ble_eq_true rfl, Nat.le_of_ble_eq_true rfl⟩ ⟨Nat.le_refl _, Nat.le_refl _⟩) hS (fun r_132 σ_134 H locs hP_133 hS => ?_)
                            obtain ⟨rfl, rfl⟩ := hP_133
                            refine ti_const C.1 C.2.1 dX2_addDefect_125 ?_
                            have hb_135 := hWn ((4 * (M1.2 4 ((4 * q) + 3))) + 2)
                            refine tl_ci (t_V (n := 2) (ci := 8) C hml hS (m2_want l X σ_1 mo ad M1 hM1 hI1 ((M1.2 4 ((4 * q) + 3))) (2) (by omega)) q1817 q1819 qs28 q53 q1820 (by decide +kernel) hm rfl rfl hl.1 rfl (Nat.le_of_ble_eq_true rfl) dX2_addDefect_126 ⟨Nat.le_of_ble_eq_true rfl, Nat.le_of_ble_eq_true rfl⟩ ⟨Nat.le_refl _, Nat.le_refl _⟩) hS (fun r_136 σ_138 H locs hP_137 hS => ?_)
                            obtain ⟨rfl, rfl⟩ := hP_137
                            refine ti_icmp_le (tgt := 136) C.1 C.2.1 dX2_addDefect_129 (by decide) ⟨by omega, by omega⟩ ⟨by omega, by omega⟩ (fun hc_139 => ?_) (fun hc_139 => ?_)
                            · skip
                              refine ti_const C.1 C.2.1 dX2_addDefect_136 ?_
                              refine lv_istore (lv' := [(5, .int (iI (0))), (6, .int (iI (q))), (0, .ref (mo)), (1, .int (iI (b))), (2, .int (iI (fr))), (3, .int (iI (t))), (4, .int (iI (g)))]) C.1 C.2.1 dX2_addDefect_137 hl (by decide) rfl (fun ls hl => ?_)
                              refine ti_iinc (lv' := [(6, .int (iI ((q + 1)))), (5, .int (iI (0))), (0, .ref (mo)), (1, .int (iI (b))), (2, .int (iI (fr))), (3, .int (iI (t))), (4, .int (iI (g)))]) C.1 C.2.1 dX2_addDefect_139 hl (k := 1) rfl (by decide) rfl (fun ls hl => ?_)
                              refine lv_goto (tgt := 72) C.1 C.2.1 dX2_addDefect_142 (by decide) ?_
                              exact ih_60 ((q + 1)) (0) ⟨by omega, lp_bk hR (by omega) (by unfold mRefF; split <;> omega)⟩ (by omega) _ _ _ hS (lv_sub hl [0, 1, 2, 3, 4, 5, 6] rfl)
                            · skip
                              refine ti_const C.1 C.2.1 dX2_addDefect_132 ?_
                              refine lv_goto (tgt := 137) C.1 C.2.1 dX2_addDefect_133 (by decide) ?_
                              refine lv_istore (lv' := [(5, .int (iI (1))), (6, .int (iI (q))), (0, .ref (mo)), (1, .int (iI (b))), (2, .int (iI (fr))), (3, .int (iI (t))), (4, .int (iI (g)))]) C.1 C.2.1 dX2_addDefect_137 hl (by decide) rfl (fun ls hl => ?_)
                              refine ti_iinc (lv' := [(6, .int (iI ((q + 1)))), (5, .int (iI (1))), (0, .ref (mo)), (1, .int (iI (b))), (2, .int (iI (fr))), (3, .int (iI (t))), (4, .int (iI (g)))]) C.1 C.2.1 dX2_addDefect_139 hl (k := 1) rfl (by decide) rfl (fun ls hl => ?_)
                              refine lv_goto (tgt := 72) C.1 C.2.1 dX2_addDefect_142 (by decide) ?_
                              exact ih_60 ((q + 1)) (1) ⟨by omega, lp_bk hR (by omega) (by unfold mRefF; split <;> omega)⟩ (by omega) _ _ _ hS (lv_sub hl [0, 1, 2, 3, 4, 5, 6] rfl)
              exact loop_58 (((M1.1 6 - (0) : Int)).toNat + 1) (0) (0) ⟨by omega, by unfold mRefused; rw [if_neg (by omega)]⟩ (by omega) _ _ _ hS (lv_sub hl [0, 1, 2, 3, 4, 5, 6] rfl)
            · skip
              refine ti_const C.1 C.2.1 dX2_addDefect_62 ?_
              refine lv_goto (tgt := 67) C.1 C.2.1 dX2_addDefect_63 (by decide) ?_
              refine lv_istore (lv' := [(5, .int (iI (1))), (0, .ref (mo)), (1, .int (iI (b))), (2, .int (iI (fr))), (3, .int (iI (t))), (4, .int (iI (g)))]) C.1 C.2.1 dX2_addDefect_67 hl (by decide) rfl (fun ls hl => ?_)
              refine ti_const C.1 C.2.1 dX2_addDefect_69 ?_
              refine lv_istore (lv' := [(6, .int (iI (0))), (5, .int (iI (1))), (0, .ref (mo)), (1, .int (iI (b))), (2, .int (iI (fr))), (3, .int (iI (t))), (4, .int (iI (g)))]) C.1 C.2.1 dX2_addDefect_70 hl (by decide) rfl (fun ls hl => ?_)
              have loop_140 : ∀ (n_141 : Nat) (q : Int) (a : Int), (0 ≤ q ∧ q ≤ M1.1 6 ∧ (a = 0 ∨ a = 1) ∧ (M1.1 2 = 24 → a = 1)) ∧ lp (mRefF M1 b fr t g) q (M1.1 6) a = mRefused M1 b fr t g → M1.1 6 - q < (n_141 : Int) → ∀ (H : Heap) (locs : List Loc) (ls : Array Slot), tl_S X s σ_1 H locs → lv_has ls 7 [(6, .int (iI (q))), (5, .int (iI (a))), (0, .ref (mo)), (1, .int (iI (b))), (2, .int (iI (fr))), (3, .int (iI (t))), (4, .int (iI (g)))] → W p l e (tl_rm 3 (0) (0)) s m ([.ref (mo), .int (iI (b)), .int (iI (fr)), .int (iI (t)), .int (iI (g))] : List Value).toArray below meth c H locs (0) (0) (MQ below (tl_Qi X (fun r σ' => r = iI (mAddDefect M1 b fr t g).1 ∧ MD X σ' mo ad (mAddDefect M1 b fr t g).2 ∧ mFr σ σ')) ([.ref (mo), .int (iI (b)), .int (iI (fr)), .int (iI (t)), .int (iI (g))] : List Value).toArray s (0) (0) (tl_A X)) (F0 m 72 ls []) := by
                intro n_141
                induction n_141 with
                | zero => intro q a hinv hms; omega
                | succ n_141 ih_142 =>
                  intro q a hinv hms_143  H locs ls hS hl
                  obtain ⟨hv, hR⟩ := hinv
                  refine lv_iload C.1 C.2.1 dX2_addDefect_72 (lv_at hl 0 rfl) ?_
                  refine lv_aload_n C.1 C.2.1 dX2_addDefect_74 rfl (lv_at hl 2 rfl) ?_
                  refine gf_X2_63_8 C hS hm rfl dX2_addDefect_75 ?_
                  refine ti_icmp_ge (tgt := 145) C.1 C.2.1 dX2_addDefect_78 (by decide) ⟨by omega, by omega⟩ ⟨by omega, by omega⟩ (fun hc_144 => ?_) (fun hc_144 => ?_)
                  · skip
                    have hR := lp_ex hR (by omega)
                    refine lv_iload C.1 C.2.1 dX2_addDefect_145 (lv_at hl 1 rfl) ?_
                    refine ti_if_eq (tgt := 156) C.1 C.2.1 dX2_addDefect_147 (by decide) ⟨by omega, by omega⟩ (fun hc_145 => ?_) (fun hc_145 => ?_)
                    · skip
                      refine lv_aload_n C.1 C.2.1 dX2_addDefect_156 rfl (lv_at hl 2 rfl) ?_
                      refine gf_X2_13_8 C hS hm rfl dX2_addDefect_157 ?_
                      refine ti_const C.1 C.2.1 dX2_addDefect_160 ?_
                      refine lv_aload_n C.1 C.2.1 dX2_addDefect_161 rfl (lv_at hl 2 rfl) ?_
                      refine gf_X2_60_8 C hS hm rfl dX2_addDefect_162 ?_
                      refine ti_imul C.1 C.2.1 dX2_addDefect_165 ?_
                      refine lv_iload_n C.1 C.2.1 dX2_addDefect_166 rfl (lv_at hl 3 rfl) ?_
                      refine h_iastZ C hS h1 (by omega) (by omega) (by omega) dX2_addDefect_167 (fun H locs hS => ?_)
                      obtain ⟨σ_146, eσ_146⟩ : ∃ z, z = va_up σ_1 (ad 1) (some (oI (X.2.2.1 0) 96 (zA (zup (M1.2 1) ((4 * M1.1 2)) (b))))) := ⟨_, rfl⟩
                      rw [← eσ_146] at hS
                      have he_147 := up_kp eσ_146 (tl_neA hm h1) hm
                      have he_148 := up_kp eσ_146 (fun z => absurd (hd 0 1 (by decide) (by decide) z) (by decide)) h0
                      have he_149 : σ_146 (ad 1) = some (oI (X.2.2.1 0) 96 (zA (zup (M1.2 1) ((4 * M1.1 2)) (b)))) := by rw [eσ_146]; exact up_s
                      have he_150 := up_kp eσ_146 (fun z => absurd (hd 2 1 (by decide) (by decide) z) (by decide)) h2
                      have he_151 := up_kp eσ_146 (fun z => absurd (hd 3 1 (by decide) (by decide) z) (by decide)) h3
                      have he_152 := up_kp eσ_146 (fun z => absurd (hd 4 1 (by decide) (by decide) z) (by decide)) h4
                      have he_153 := up_kp eσ_146 (fun z => absurd (hd 5 1 (by decide) (by decide) z) (by decide)) h5
                      have hfr := hfr.up h1 mK_i eσ_146
                      refine lv_aload_n C.1 C.2.1 dX2_addDefect_168 rfl (lv_at hl 2 rfl) ?_
                      refine gf_X2_13_8 C hS he_147 rfl dX2_addDefect_169 ?_
                      refine ti_const C.1 C.2.1 dX2_addDefect_172 ?_
                      refine lv_aload_n C.1 C.2.1 dX2_addDefect_173 rfl (lv_at hl 2 rfl) ?_
                      refine gf_X2_60_8 C hS he_147 rfl dX2_addDefect_174 ?_
                      refine ti_imul C.1 C.2.1 dX2_addDefect_177 ?_
                      refine ti_const C.1 C.2.1 dX2_addDefect_178 ?_
                      refine ti_iadd C.1 C.2.1 dX2_addDefect_179 ?_
                      refine lv_iload_n C.1 C.2.1 dX2_addDefect_180 rfl (lv_at hl 4 rfl) ?_
                      refine h_iastZ C hS he_149 (by omega) (by omega) (by omega) dX2_addDefect_181 (fun H locs hS => ?_)
                      obtain ⟨σ_154, eσ_154⟩ : ∃ z, z = va_up σ_146 (ad 1) (some (oI (X.2.2.1 0) 96 (zA (zup (zup (M1.2 1) ((4 * M1.1 2)) (b)) (((4 * M1.1 2) + 1)) (fr))))) := ⟨_, rfl⟩
                      rw [← eσ_154] at hS
                      have he_155 := up_kp eσ_154 (tl_neA he_147 he_149) he_147
                      have he_156 := up_kp eσ_154 (fun z => absurd (hd 0 1 (by decide) (by decide) z) (by decide)) he_148
                      have he_157 : σ_154 (ad 1) = some (oI (X.2.2.1 0) 96 (zA (zup (zup (M1.2 1) ((4 * M1.1 2)) (b)) (((4 * M1.1 2) + 1)) (fr)))) := by rw [eσ_154]; exact up_s
                      have he_158 := up_kp eσ_154 (fun z => absurd (hd 2 1 (by decide) (by decide) z) (by decide)) he_150
                      have he_159 := up_kp eσ_154 (fun z => absurd (hd 3 1 (by decide) (by decide) z) (by decide)) he_151
                      have he_160 := up_kp eσ_154 (fun z => absurd (hd 4 1 (by decide) (by decide) z) (by decide)) he_152
                      have he_161 := up_kp eσ_154 (fun z => absurd (hd 5 1 (by decide) (by decide) z) (by decide)) he_153
                      have hfr := hfr.up he_149 mK_i eσ_154
                      refine lv_aload_n C.1 C.2.1 dX2_addDefect_182 rfl (lv_at hl 2 rfl) ?_
                      refine gf_X2_13_8 C hS he_155 rfl dX2_addDefect_183 ?_
                      refine ti_const C.1 C.2.1 dX2_addDefect_186 ?_
                      refine lv_aload_n C.1 C.2.1 dX2_addDefect_187 rfl (lv_at hl 2 rfl) ?_
                      refine gf_X2_60_8 C hS he_155 rfl dX2_addDefect_188 ?_
                      refine ti_imul C.1 C.2.1 dX2_addDefect_191 ?_
                      refine ti_const C.1 C.2.1 dX2_addDefect_192 ?_
                      refine ti_iadd C.1 C.2.1 dX2_addDefect_193 ?_
                      refine lv_iload_n C.1 C.2.1 dX2_addDefect_194 rfl (lv_at hl 5 rfl) ?_
                      refine h_iastZ C hS he_157 (by omega) (by omega) (by omega) dX2_addDefect_195 (fun H locs hS => ?_)
                      obtain ⟨σ_162, eσ_162⟩ : ∃ z, z = va_up σ_154 (ad 1) (some (oI (X.2.2.1 0) 96 (zA (zup (zup (zup (M1.2 1) ((4 * M1.1 2)) (b)) (((4 * M1.1 2) + 1)) (fr)) (((4 * M1.1 2) + 2)) (t))))) := ⟨_, rfl⟩
                      rw [← eσ_162] at hS
                      have he_163 := up_kp eσ_162 (tl_neA he_155 he_157) he_155
                      have he_164 := up_kp eσ_162 (fun z => absurd (hd 0 1 (by decide) (by decide) z) (by decide)) he_156
                      have he_165 : σ_162 (ad 1) = some (oI (X.2.2.1 0) 96 (zA (zup (zup (zup (M1.2 1) ((4 * M1.1 2)) (b)) (((4 * M1.1 2) + 1)) (fr)) (((4 * M1.1 2) + 2)) (t)))) := by rw [eσ_162]; exact up_s
                      have he_166 := up_kp eσ_162 (fun z => absurd (hd 2 1 (by decide) (by decide) z) (by decide)) he_158
                      have he_167 := up_kp eσ_162 (fun z => absurd (hd 3 1 (by decide) (by decide) z) (by decide)) he_159
                      have he_168 := up_kp eσ_162 (fun z => absurd (hd 4 1 (by decide) (by decide) z) (by decide)) he_160
                      have he_169 := up_kp eσ_162 (fun z => absurd (hd 5 1 (by decide) (by decide) z) (by decide)) he_161
                      have hfr := hfr.up he_157 mK_i eσ_162
                      refine lv_aload_n C.1 C.2.1 dX2_addDefect_196 rfl (lv_at hl 2 rfl) ?_
                      refine gf_X2_13_8 C hS he_163 rfl dX2_addDefect_197 ?_
                      refine ti_const C.1 C.2.1 dX2_addDefect_200 ?_
                      refine lv_aload_n C.1 C.2.1 dX2_addDefect_201 rfl (lv_at hl 2 rfl) ?_
                      refine gf_X2_60_8 C hS he_163 rfl dX2_addDefect_202 ?_
                      refine ti_imul C.1 C.2.1 dX2_addDefect_205 ?_
                      refine ti_const C.1 C.2.1 dX2_addDefect_206 ?_
                      refine ti_iadd C.1 C.2.1 dX2_addDefect_207 ?_
                      refine lv_iload C.1 C.2.1 dX2_addDefect_208 (lv_at hl 6 rfl) ?_
                      refine h_iastZ C hS he_165 (by omega) (by omega) (by omega) dX2_addDefect_210 (fun H locs hS => ?_)
                      obtain ⟨σ_170, eσ_170⟩ : ∃ z, z = va_up σ_162 (ad 1) (some (oI (X.2.2.1 0) 96 (zA (zup (zup (zup (zup (M1.2 1) ((4 * M1.1 2)) (b)) (((4 * M1.1 2) + 1)) (fr)) (((4 * M1.1 2) + 2)) (t)) (((4 * M1.1 2) + 3)) (g))))) := ⟨_, rfl⟩
                      rw [← eσ_170] at hS
                      have he_171 := up_kp eσ_170 (tl_neA he_163 he_165) he_163
                      have he_172 := up_kp eσ_170 (fun z => absurd (hd 0 1 (by decide) (by decide) z) (by decide)) he_164
                      have he_173 : σ_170 (ad 1) = some (oI (X.2.2.1 0) 96 (zA (zup (zup (zup (zup (M1.2 1) ((4 * M1.1 2)) (b)) (((4 * M1.1 2) + 1)) (fr)) (((4 * M1.1 2) + 2)) (t)) (((4 * M1.1 2) + 3)) (g)))) := by rw [eσ_170]; exact up_s
                      have he_174 := up_kp eσ_170 (fun z => absurd (hd 2 1 (by decide) (by decide) z) (by decide)) he_166
                      have he_175 := up_kp eσ_170 (fun z => absurd (hd 3 1 (by decide) (by decide) z) (by decide)) he_167
                      have he_176 := up_kp eσ_170 (fun z => absurd (hd 4 1 (by decide) (by decide) z) (by decide)) he_168
                      have he_177 := up_kp eσ_170 (fun z => absurd (hd 5 1 (by decide) (by decide) z) (by decide)) he_169
                      have hfr := hfr.up he_165 mK_i eσ_170
                      refine lv_aload_n C.1 C.2.1 dX2_addDefect_211 rfl (lv_at hl 2 rfl) ?_
                      refine lv_dup C.1 C.2.1 dX2_addDefect_212 rfl ?_
                      refine gf_X2_60_8 C hS he_171 rfl dX2_addDefect_213 ?_
                      refine ti_const C.1 C.2.1 dX2_addDefect_216 ?_
                      refine ti_iadd C.1 C.2.1 dX2_addDefect_217 ?_
                      refine gp_X2_60_8 C hS he_171 rfl rfl (Nat.le_of_ble_eq_true rfl) dX2_addDefect_218 (fun H locs hS => ?_)
                      obtain ⟨σ_178, eσ_178⟩ : ∃ z, z = va_up σ_170 (mo) (some (oO 8 [.int (iI (M1.1 0)), .int (iI (M1.1 1)), .ref (ad 0), .int (iI ((M1.1 2 + 1))), .ref (ad 1), .int (iI (M1.1 3)), .ref (ad 2), .ref (ad 3), .int (iI (M1.1 4)), .int (iI (M1.1 5)), .int (iI (M1.1 6)), .ref (ad 4), .ref (ad 5), .int (iI (M1.1 7)), .int (iI (M1.1 8))])) := ⟨_, rfl⟩
                      have hS : tl_S X s σ_178 H locs := by rw [eσ_178]; exact hS
                      have he_179 : σ_178 (mo) = some (oO 8 [.int (iI (M1.1 0)), .int (iI (M1.1 1)), .ref (ad 0), .int (iI ((M1.1 2 + 1))), .ref (ad 1), .int (iI (M1.1 3)), .ref (ad 2), .ref (ad 3), .int (iI (M1.1 4)), .int (iI (M1.1 5)), .int (iI (M1.1 6)), .ref (ad 4), .ref (ad 5), .int (iI (M1.1 7)), .int (iI (M1.1 8))]) := by rw [eσ_178]; exact up_s
                      have he_180 := up_kp eσ_178 (Ne.symm (tl_neA he_171 he_172)) he_172
                      have he_181 := up_kp eσ_178 (Ne.symm (tl_neA he_171 he_173)) he_173
                      have he_182 := up_kp eσ_178 (Ne.symm (tl_neA he_171 he_174)) he_174
                      have he_183 := up_kp eσ_178 (Ne.symm (tl_neA he_171 he_175)) he_175
                      have he_184 := up_kp eσ_178 (Ne.symm (tl_neA he_171 he_176)) he_176
                      have he_185 := up_kp eσ_178 (Ne.symm (tl_neA he_171 he_177)) he_177
                      have hfr := hfr.up he_171 mK_o eσ_178
                      refine lv_aload_n C.1 C.2.1 dX2_addDefect_221 rfl (lv_at hl 2 rfl) ?_
                      refine gf_X2_60_8 C hS he_179 rfl dX2_addDefect_222 ?_
                      exact r_i C hr hlk hS (by rw [show mAddDefect M1 b fr t g = ((M1.1 2 + 1), (mset (aset (aset (aset (aset M1 1 ((4 * M1.1 2)) (b)) 1 (((4 * M1.1 2) + 1)) (fr)) 1 (((4 * M1.1 2) + 2)) (t)) 1 (((4 * M1.1 2) + 3)) (g)) 2 ((M1.1 2 + 1)))) from by (unfold mAddDefect; (repeat (first | rw [if_pos (by omega)] | rw [if_neg (by omega)])); try rfl)]; exact ⟨rfl, ⟨he_179, he_180, he_181, he_182, he_183, he_184, he_185, hd⟩, hfr⟩) dX2_addDefect_225
                    · skip
                      refine lv_aload_n C.1 C.2.1 dX2_addDefect_150 rfl (lv_at hl 2 rfl) ?_
                      refine ti_const C.1 C.2.1 dX2_addDefect_151 ?_
                      refine tl_ci (t_V (n := 1) (ci := 8) C hml hS (m2_fail l X σ_1 mo ad M1 ⟨hm, h0, h1, h2, h3, h4, h5, hd⟩ (3)) q1785 q1787 qs21 q53 q1788 (by decide +kernel) hm rfl rfl hl.1 rfl (Nat.le_of_ble_eq_true rfl) dX2_addDefect_152 ⟨Nat.le_of_ble_eq_true rfl, Nat.le_of_ble_eq_true rfl⟩ ⟨Nat.le_refl _, Nat.le_refl _⟩) hS (fun r_186 σ_188 H locs hP_187 hS => ?_)
                      obtain ⟨rfl, hM_189, hfr9⟩ := hP_187
                      have hfr := hfr.trans hfr9
                      obtain ⟨hm_190, hm_191, hm_192, hm_193, hm_194, hm_195, hm_196, hd⟩ := id hM_189
                      exact r_i C hr hlk hS (by rw [show mAddDefect M1 b fr t g = (0, (mset M1 0 (3))) from by (unfold mAddDefect; (repeat (first | rw [if_pos (by omega)] | rw [if_neg (by omega)])); try rfl)]; exact ⟨rfl, ⟨hm_190, hm_191, hm_192, hm_193, hm_194, hm_195, hm_196, hd⟩, hfr⟩) dX2_addDefect_155
                  · skip
                    refine lv_iload C.1 C.2.1 dX2_addDefect_81 (lv_at hl 1 rfl) ?_
                    refine ti_if_ne (tgt := 132) C.1 C.2.1 dX2_addDefect_83 (by decide) ⟨by omega, by omega⟩ (fun hc_197 => ?_) (fun hc_197 => ?_)
                    · skip
                      refine ti_const C.1 C.2.1 dX2_addDefect_132 ?_
                      refine lv_goto (tgt := 137) C.1 C.2.1 dX2_addDefect_133 (by decide) ?_
                      refine lv_istore (lv' := [(5, .int (iI (1))), (6, .int (iI (q))), (0, .ref (mo)), (1, .int (iI (b))), (2, .int (iI (fr))), (3, .int (iI (t))), (4, .int (iI (g)))]) C.1 C.2.1 dX2_addDefect_137 hl (by decide) rfl (fun ls hl => ?_)
                      refine ti_iinc (lv' := [(6, .int (iI ((q + 1)))), (5, .int (iI (1))), (0, .ref (mo)), (1, .int (iI (b))), (2, .int (iI (fr))), (3, .int (iI (t))), (4, .int (iI (g)))]) C.1 C.2.1 dX2_addDefect_139 hl (k := 1) rfl (by decide) rfl (fun ls hl => ?_)
                      refine lv_goto (tgt := 72) C.1 C.2.1 dX2_addDefect_142 (by decide) ?_
                      exact ih_142 ((q + 1)) (1) ⟨by omega, lp_bk hR (by omega) (by unfold mRefF; split <;> omega)⟩ (by omega) _ _ _ hS (lv_sub hl [0, 1, 2, 3, 4, 5, 6] rfl)
                    · skip
                      refine lv_aload_n C.1 C.2.1 dX2_addDefect_86 rfl (lv_at hl 2 rfl) ?_
                      refine lv_iload C.1 C.2.1 dX2_addDefect_87 (lv_at hl 0 rfl) ?_
                      refine lv_iload_n C.1 C.2.1 dX2_addDefect_89 rfl (lv_at hl 3 rfl) ?_
                      refine tl_ci (t_V (n := 2) (ci := 8) C hml hS (m2_isOn l X σ_1 mo ad M1 hM1 hI1 (q) (b) (by omega)) q1801 q1803 qs24 q53 q1804 (by decide +kernel) hm rfl rfl hl.1 rfl (Nat.le_of_ble_eq_true rfl) dX2_addDefect_90 ⟨Nat.le_of_ble_eq_true rfl, Nat.le_of_ble_eq_true rfl⟩ ⟨Nat.le_refl _, Nat.le_refl _⟩) hS (fun r_198 σ_200 H locs hP_199 hS => ?_)
                      obtain ⟨rfl, rfl⟩ := hP_199
                      refine ti_tb_eq (tgt := 136) C.1 C.2.1 dX2_addDefect_93 (by decide) (fun hc_201 => ?_) (fun hc_201 => ?_)
                      · skip
                        refine ti_const C.1 C.2.1 dX2_addDefect_136 ?_
                        refine lv_istore (lv' := [(5, .int (iI (0))), (6, .int (iI (q))), (0, .ref (mo)), (1, .int (iI (b))), (2, .int (iI (fr))), (3, .int (iI (t))), (4, .int (iI (g)))]) C.1 C.2.1 dX2_addDefect_137 hl (by decide) rfl (fun ls hl => ?_)
                        refine ti_iinc (lv' := [(6, .int (iI ((q + 1)))), (5, .int (iI (0))), (0, .ref (mo)), (1, .int (iI (b))), (2, .int (iI (fr))), (3, .int (iI (t))), (4, .int (iI (g)))]) C.1 C.2.1 dX2_addDefect_139 hl (k := 1) rfl (by decide) rfl (fun ls hl => ?_)
                        refine lv_goto (tgt := 72) C.1 C.2.1 dX2_addDefect_142 (by decide) ?_
                        exact ih_142 ((q + 1)) (0) ⟨by omega, lp_bk hR (by omega) (by unfold mRefF; split <;> omega)⟩ (by omega) _ _ _ hS (lv_sub hl [0, 1, 2, 3, 4, 5, 6] rfl)
                      · skip
                        refine lv_aload_n C.1 C.2.1 dX2_addDefect_96 rfl (lv_at hl 2 rfl) ?_
                        refine lv_iload C.1 C.2.1 dX2_addDefect_97 (lv_at hl 0 rfl) ?_
                        have hb_202 := hB 4 ((4 * q) + 1)
                        refine tl_ci (t_V (n := 1) (ci := 8) C hml hS (m2_from l X σ_1 mo ad M1 hM1 hI1 (q) (by omega)) q1805 q1807 qs25 q53 q1808 (by decide +kernel) hm rfl rfl hl.1 rfl (Nat.le_of_ble_eq_true rfl) dX2_addDefect_99 ⟨Nat.le_of_ble_eq_true rfl, Nat.le_of_ble_eq_true rfl⟩ ⟨Nat.le_refl _, Nat.le_refl _⟩) hS (fun r_203 σ_205 H locs hP_204 hS => ?_)
                        obtain ⟨rfl, rfl⟩ := hP_204
                        refine lv_iload_n C.1 C.2.1 dX2_addDefect_102 rfl (lv_at hl 5 rfl) ?_
                        refine ti_icmp_ge (tgt := 136) C.1 C.2.1 dX2_addDefect_103 (by decide) ⟨by omega, by omega⟩ ⟨by omega, by omega⟩ (fun hc_206 => ?_) (fun hc_206 => ?_)
                        · skip
                          refine ti_const C.1 C.2.1 dX2_addDefect_136 ?_
                          refine lv_istore (lv' := [(5, .int (iI (0))), (6, .int (iI (q))), (0, .ref (mo)), (1, .int (iI (b))), (2, .int (iI (fr))), (3, .int (iI (t))), (4, .int (iI (g)))]) C.1 C.2.1 dX2_addDefect_137 hl (by decide) rfl (fun ls hl => ?_)
                          refine ti_iinc (lv' := [(6, .int (iI ((q + 1)))), (5, .int (iI (0))), (0, .ref (mo)), (1, .int (iI (b))), (2, .int (iI (fr))), (3, .int (iI (t))), (4, .int (iI (g)))]) C.1 C.2.1 dX2_addDefect_139 hl (k := 1) rfl (by decide) rfl (fun ls hl => ?_)
                          refine lv_goto (tgt := 72) C.1 C.2.1 dX2_addDefect_142 (by decide) ?_
                          exact ih_142 ((q + 1)) (0) ⟨by omega, lp_bk hR (by omega) (by unfold mRefF; split <;> omega)⟩ (by omega) _ _ _ hS (lv_sub hl [0, 1, 2, 3, 4, 5, 6] rfl)
                        · skip
                          refine lv_iload_n C.1 C.2.1 dX2_addDefect_106 rfl (lv_at hl 4 rfl) ?_
                          refine lv_aload_n C.1 C.2.1 dX2_addDefect_107 rfl (lv_at hl 2 rfl) ?_
                          refine lv_iload C.1 C.2.1 dX2_addDefect_108 (lv_at hl 0 rfl) ?_
                          have hb_207 := hB 4 ((4 * q) + 2)
                          refine tl_ci (t_V (n := 1) (ci := 8) C hml hS (m2_to l X σ_1 mo ad M1 hM1 hI1 (q) (by omega)) q1809 q1811 qs26 q53 q1812 (by decide +kernel) hm rfl rfl hl.1 rfl (Nat.le_of_ble_eq_true rfl) dX2_addDefect_110 ⟨Nat.le_of_ble_eq_true rfl, Nat.le_of_ble_eq_true rfl⟩ ⟨Nat.le_refl _, Nat.le_refl _⟩) hS (fun r_208 σ_210 H locs hP_209 hS => ?_)
                          obtain ⟨rfl, rfl⟩ := hP_209
                          refine ti_icmp_ge (tgt := 136) C.1 C.2.1 dX2_addDefect_113 (by decide) ⟨by omega, by omega⟩ ⟨by omega, by omega⟩ (fun hc_211 => ?_) (fun hc_211 => ?_)
                          · skip
                            refine ti_const C.1 C.2.1 dX2_addDefect_136 ?_
                            refine lv_istore (lv' := [(5, .int (iI (0))), (6, .int (iI (q))), (0, .ref (mo)), (1, .int (iI (b))), (2, .int (iI (fr))), (3, .int (iI (t))), (4, .int (iI (g)))]) C.1 C.2.1 dX2_addDefect_137 hl (by decide) rfl (fun ls hl => ?_)
                            refine ti_iinc (lv' := [(6, .int (iI ((q + 1)))), (5, .int (iI (0))), (0, .ref (mo)), (1, .int (iI (b))), (2, .int (iI (fr))), (3, .int (iI (t))), (4, .int (iI (g)))]) C.1 C.2.1 dX2_addDefect_139 hl (k := 1) rfl (by decide) rfl (fun ls hl => ?_)
                            refine lv_goto (tgt := 72) C.1 C.2.1 dX2_addDefect_142 (by decide) ?_
                            exact ih_142 ((q + 1)) (0) ⟨by omega, lp_bk hR (by omega) (by unfold mRefF; split <;> omega)⟩ (by omega) _ _ _ hS (lv_sub hl [0, 1, 2, 3, 4, 5, 6] rfl)
                          · skip
                            refine lv_iload C.1 C.2.1 dX2_addDefect_116 (lv_at hl 6 rfl) ?_
                            refine lv_aload_n C.1 C.2.1 dX2_addDefect_118 rfl (lv_at hl 2 rfl) ?_
                            refine lv_aload_n C.1 C.2.1 dX2_addDefect_119 rfl (lv_at hl 2 rfl) ?_
                            refine lv_iload C.1 C.2.1 dX2_addDefect_120 (lv_at hl 0 rfl) ?_
                            have hb_212 := hB 4 ((4 * q) + 3)
                            have hpt_213 := hPt (q) (by omega) (by omega)
                            refine tl_ci (t_V (n := 1) (ci := 8) C hml hS (m2_partOf l X σ_1 mo ad M1 hM1 hI1 (q) (by omega)) q1813 q1815 qs27 q53 q1816 (by decide +kernel) hm rfl rfl hl.1 rfl (Nat.le_of_ble_eq_true rfl) dX2_addDefect_122 ⟨Nat.le_of_ble_eq_true rfl, Nat.le_of_ble_eq_true rfl⟩ ⟨Nat.le_refl _, Nat.le_refl _⟩) hS (fun r_214 σ_216 H locs hP_215 hS => ?_)
                            obtain ⟨rfl, rfl⟩ := hP_215
                            refine ti_const C.1 C.2.1 dX2_addDefect_125 ?_
                            have hb_217 := hWn ((4 * (M1.2 4 ((4 * q) + 3))) + 2)
                            refine tl_ci (t_V (n := 2) (ci := 8) C hml hS (m2_want l X σ_1 mo ad M1 hM1 hI1 ((M1.2 4 ((4 * q) + 3))) (2) (by omega)) q1817 q1819 qs28 q53 q1820 (by decide +kernel) hm rfl rfl hl.1 rfl (Nat.le_of_ble_eq_true rfl) dX2_addDefect_126 ⟨Nat.le_of_ble_eq_true rfl, Nat.le_of_ble_eq_true rfl⟩ ⟨Nat.le_refl _, Nat.le_refl _⟩) hS (fun r_218 σ_220 H locs hP_219 hS => ?_)
                            obtain ⟨rfl, rfl⟩ := hP_219
                            refine ti_icmp_le (tgt := 136) C.1 C.2.1 dX2_addDefect_129 (by decide) ⟨by omega, by omega⟩ ⟨by omega, by omega⟩ (fun hc_221 => ?_) (fun hc_221 => ?_)
                            · skip
                              refine ti_const C.1 C.2.1 dX2_addDefect_136 ?_
                              refine lv_istore (lv' := [(5, .int (iI (0))), (6, .int (iI (q))), (0, .ref (mo)), (1, .int (iI (b))), (2, .int (iI (fr))), (3, .int (iI (t))), (4, .int (iI (g)))]) C.1 C.2.1 dX2_addDefect_137 hl (by decide) rfl (fun ls hl => ?_)
                              refine ti_iinc (lv' := [(6, .int (iI ((q + 1)))), (5, .int (iI (0))), (0, .ref (mo)), (1, .int (iI (b))), (2, .int (iI (fr))), (3, .int (iI (t))), (4, .int (iI (g)))]) C.1 C.2.1 dX2_addDefect_139 hl (k := 1) rfl (by decide) rfl (fun ls hl => ?_)
                              refine lv_goto (tgt := 72) C.1 C.2.1 dX2_addDefect_142 (by decide) ?_
                              exact ih_142 ((q + 1)) (0) ⟨by omega, lp_bk hR (by omega) (by unfold mRefF; split <;> omega)⟩ (by omega) _ _ _ hS (lv_sub hl [0, 1, 2, 3, 4, 5, 6] rfl)
                            · skip
                              refine ti_const C.1 C.2.1 dX2_addDefect_132 ?_
                              refine lv_goto (tgt := 137) C.1 C.2.1 dX2_addDefect_133 (by decide) ?_
                              refine lv_istore (lv' := [(5, .int (iI (1))), (6, .int (iI (q))), (0, .ref (mo)), (1, .int (iI (b))), (2, .int (iI (fr))), (3, .int (iI (t))), (4, .int (iI (g)))]) C.1 C.2.1 dX2_addDefect_137 hl (by decide) rfl (fun ls hl => ?_)
                              refine ti_iinc (lv' := [(6, .int (iI ((q + 1)))), (5, .int (iI (1))), (0, .ref (mo)), (1, .int (iI (b))), (2, .int (iI (fr))), (3, .int (iI (t))), (4, .int (iI (g)))]) C.1 C.2.1 dX2_addDefect_139 hl (k := 1) rfl (by decide) rfl (fun ls hl => ?_)
                              refine lv_goto (tgt := 72) C.1 C.2.1 dX2_addDefect_142 (by decide) ?_
                              exact ih_142 ((q + 1)) (1) ⟨by omega, lp_bk hR (by omega) (by unfold mRefF; split <;> omega)⟩ (by omega) _ _ _ hS (lv_sub hl [0, 1, 2, 3, 4, 5, 6] rfl)
              exact loop_140 (((M1.1 6 - (0) : Int)).toNat + 1) (0) (1) ⟨by omega, by unfold mRefused; rw [if_pos (by omega)]⟩ (by omega) _ _ _ hS (lv_sub hl [0, 1, 2, 3, 4, 5, 6] rfl)
          · skip
            refine lv_aload_n C.1 C.2.1 dX2_addDefect_47 rfl (lv_at hl 0 rfl) ?_
            refine ti_const C.1 C.2.1 dX2_addDefect_48 ?_
            refine tl_ci (t_V (n := 1) (ci := 8) C hml hS (m2_fail l X σ_1 mo ad M1 ⟨hm, h0, h1, h2, h3, h4, h5, hd⟩ (2)) q1785 q1787 qs21 q53 q1788 (by decide +kernel) hm rfl rfl hl.1 rfl (Nat.le_of_ble_eq_true rfl) dX2_addDefect_49 ⟨Nat.le_of_ble_eq_true rfl, Nat.le_of_ble_eq_true rfl⟩ ⟨Nat.le_refl _, Nat.le_refl _⟩) hS (fun r_222 σ_224 H locs hP_223 hS => ?_)
            obtain ⟨rfl, hM_225, hfr9⟩ := hP_223
            have hfr := hfr.trans hfr9
            obtain ⟨hm_226, hm_227, hm_228, hm_229, hm_230, hm_231, hm_232, hd⟩ := id hM_225
            exact r_i C hr hlk hS (by rw [show mAddDefect M1 b fr t g = (0, (mset M1 0 (2))) from by (unfold mAddDefect; (repeat (first | rw [if_pos (by omega)] | rw [if_neg (by omega)])); try rfl)]; exact ⟨rfl, ⟨hm_226, hm_227, hm_228, hm_229, hm_230, hm_231, hm_232, hd⟩, hfr⟩) dX2_addDefect_52
  · skip
    refine lv_aload_n C.1 C.2.1 dX2_addDefect_13 rfl (lv_at hl 0 rfl) ?_
    refine ti_const C.1 C.2.1 dX2_addDefect_14 ?_
    refine tl_ci (t_V (n := 1) (ci := 8) C hml hS (m2_fail l X σ_1 mo ad M1 ⟨hm, h0, h1, h2, h3, h4, h5, hd⟩ (1)) q1785 q1787 qs21 q53 q1788 (by decide +kernel) hm rfl rfl hl.1 rfl (Nat.le_of_ble_eq_true rfl) dX2_addDefect_15 ⟨Nat.le_of_ble_eq_true rfl, Nat.le_of_ble_eq_true rfl⟩ ⟨Nat.le_refl _, Nat.le_refl _⟩) hS (fun r_233 σ_235 H locs hP_234 hS => ?_)
    obtain ⟨rfl, hM_236, hfr9⟩ := hP_234
    have hfr := hfr.trans hfr9
    obtain ⟨hm_237, hm_238, hm_239, hm_240, hm_241, hm_242, hm_243, hd⟩ := id hM_236
    exact r_i C hr hlk hS (by rw [show mAddDefect M1 b fr t g = (0, (mset M1 0 (1))) from by (unfold mAddDefect; (repeat (first | rw [if_pos (by omega)] | rw [if_neg (by omega)])); try rfl)]; exact ⟨rfl, ⟨hm_237, hm_238, hm_239, hm_240, hm_241, hm_242, hm_243, hd⟩, hfr⟩) dX2_addDefect_18

set_option maxHeartbeats 4000000 in
theorem m2_fits (l : Launch) (X : tl_X) (σ : tl_H) (mo : Nat) (ad : Nat → Nat) (M : mS) (hM : MD X σ mo ad M) (hI : mI M) (pa b pl : Int) (hr : -2147483648 ≤ pa ∧ pa ≤ 2147483647 ∧ -2147483648 ≤ b ∧ b ≤ 2147483647 ∧ -2147483648 ≤ pl ∧ pl ≤ 2147483647) : tl_Met l X yX2_fits cX2_fits 4 ((Option.some FieldType.boolean)) 5 (0) (0) [.ref (mo), .int (iI (pa)), .int (iI (b)), .int (iI (pl))] σ (tl_Qi X (fun r σ' => r = iI (mFits (mset M 0 0) pa b pl).1 ∧ MD X σ' mo ad (mFits (mset M 0 0) pa b pl).2 ∧ mFr σ σ')) := by
  obtain ⟨M1, eM1⟩ : ∃ z, z = mset M 0 0 := ⟨_, rfl⟩
  have e0 : M1.1 0 = 0 := by rw [eM1]; rfl
  have e1 : M1.1 1 = M.1 1 := by rw [eM1]; rfl
  have e3 : M1.1 3 = M.1 3 := by rw [eM1]; rfl
  rw [← eM1]
  refine tl_start (by decide) (Nat.le_of_ble_eq_true rfl) (fun p e s m below meth c ls C hr hml hlk hnm hS hl => ?_)
  have hl : lv_has ls 4 [(0, .ref (mo)), (1, .int (iI (pa))), (2, .int (iI (b))), (3, .int (iI (pl)))] := hl
  obtain ⟨hm, h0, h1, h2, h3, h4, h5, hd⟩ := id hM
  obtain ⟨hN, hB, hPt, hJ, hA, hWn⟩ := id hI
  have hfr : mFr σ σ := mFr.rf
  refine lv_aload_n C.1 C.2.1 dX2_fits_0 rfl (lv_at hl 0 rfl) ?_
  refine lv_aload_n C.1 C.2.1 dX2_fits_1 rfl (lv_at hl 0 rfl) ?_
  refine lv_iload_n C.1 C.2.1 dX2_fits_2 rfl (lv_at hl 1 rfl) ?_
  refine tl_ci (t_V (n := 1) (ci := 8) C hml hS (m2_isPart l X σ mo ad M hM hI (pa) (by omega)) q1863 q1865 qs32 q53 q1866 (by decide +kernel) hm rfl rfl hl.1 rfl (Nat.le_of_ble_eq_true rfl) dX2_fits_3 ⟨Nat.le_of_ble_eq_true rfl, Nat.le_of_ble_eq_true rfl⟩ ⟨Nat.le_refl _, Nat.le_refl _⟩) hS (fun r_1 σ_3 H locs hP_2 hS => ?_)
  obtain ⟨rfl, rfl⟩ := hP_2
  refine ti_tb_eq (tgt := 21) C.1 C.2.1 dX2_fits_6 (by decide) (fun hc_4 => ?_) (fun hc_4 => ?_)
  · skip
    refine ti_const C.1 C.2.1 dX2_fits_21 ?_
    refine gp_X2_36_8 C hS hm rfl rfl (Nat.le_of_ble_eq_true rfl) dX2_fits_22 (fun H locs hS => ?_)
    obtain ⟨σ_5, eσ_5⟩ : ∃ z, z = va_up σ (mo) (some (oO 8 [.int (iI (1)), .int (iI (M.1 1)), .ref (ad 0), .int (iI (M.1 2)), .ref (ad 1), .int (iI (M.1 3)), .ref (ad 2), .ref (ad 3), .int (iI (M.1 4)), .int (iI (M.1 5)), .int (iI (M.1 6)), .ref (ad 4), .ref (ad 5), .int (iI (M.1 7)), .int (iI (M.1 8))])) := ⟨_, rfl⟩
    have hS : tl_S X s σ_5 H locs := by rw [eσ_5]; exact hS
    have he_6 : σ_5 (mo) = some (oO 8 [.int (iI (1)), .int (iI (M.1 1)), .ref (ad 0), .int (iI (M.1 2)), .ref (ad 1), .int (iI (M.1 3)), .ref (ad 2), .ref (ad 3), .int (iI (M.1 4)), .int (iI (M.1 5)), .int (iI (M.1 6)), .ref (ad 4), .ref (ad 5), .int (iI (M.1 7)), .int (iI (M.1 8))]) := by rw [eσ_5]; exact up_s
    have he_7 := up_kp eσ_5 (Ne.symm (tl_neA hm h0)) h0
    have he_8 := up_kp eσ_5 (Ne.symm (tl_neA hm h1)) h1
    have he_9 := up_kp eσ_5 (Ne.symm (tl_neA hm h2)) h2
    have he_10 := up_kp eσ_5 (Ne.symm (tl_neA hm h3)) h3
    have he_11 := up_kp eσ_5 (Ne.symm (tl_neA hm h4)) h4
    have he_12 := up_kp eσ_5 (Ne.symm (tl_neA hm h5)) h5
    have hfr := hfr.up hm mK_o eσ_5
    refine lv_aload_n C.1 C.2.1 dX2_fits_25 rfl (lv_at hl 0 rfl) ?_
    refine gf_X2_36_8 C hS he_6 rfl dX2_fits_26 ?_
    refine ti_if_ne (tgt := 63) C.1 C.2.1 dX2_fits_29 (by decide) ⟨by decide, by decide⟩ (fun hc_13 => ?_) (fun hc_13 => ?_)
    · skip
      refine ti_const C.1 C.2.1 dX2_fits_63 ?_
      exact r_z (z := 0) C hr hlk hS (by first | exact tb01 _ | omega | decide) (by first | (exfalso; omega; done) | rw [show mFits M1 pa b pl = (0, (mset M1 0 1)) from by unfold mFits; repeat (first | rw [if_pos (by omega)] | rw [if_neg (by omega)])]; rw [eM1]; exact ⟨rfl, ⟨he_6, he_7, he_8, he_9, he_10, he_11, he_12, hd⟩, hfr⟩) dX2_fits_64
    · skip
      exact absurd hc_13 (by decide)
  · skip
    refine lv_aload_n C.1 C.2.1 dX2_fits_9 rfl (lv_at hl 0 rfl) ?_
    refine lv_iload_n C.1 C.2.1 dX2_fits_10 rfl (lv_at hl 2 rfl) ?_
    refine tl_ci (t_V (n := 1) (ci := 8) C hml hS (m2_isBoard l X σ mo ad M hM hI (b) (by omega)) q1793 q1795 qs22 q53 q1796 (by decide +kernel) hm rfl rfl hl.1 rfl (Nat.le_of_ble_eq_true rfl) dX2_fits_11 ⟨Nat.le_of_ble_eq_true rfl, Nat.le_of_ble_eq_true rfl⟩ ⟨Nat.le_refl _, Nat.le_refl _⟩) hS (fun r_14 σ_16 H locs hP_15 hS => ?_)
    obtain ⟨rfl, rfl⟩ := hP_15
    refine ti_tb_eq (tgt := 21) C.1 C.2.1 dX2_fits_14 (by decide) (fun hc_17 => ?_) (fun hc_17 => ?_)
    · skip
      refine ti_const C.1 C.2.1 dX2_fits_21 ?_
      refine gp_X2_36_8 C hS hm rfl rfl (Nat.le_of_ble_eq_true rfl) dX2_fits_22 (fun H locs hS => ?_)
      obtain ⟨σ_18, eσ_18⟩ : ∃ z, z = va_up σ (mo) (some (oO 8 [.int (iI (1)), .int (iI (M.1 1)), .ref (ad 0), .int (iI (M.1 2)), .ref (ad 1), .int (iI (M.1 3)), .ref (ad 2), .ref (ad 3), .int (iI (M.1 4)), .int (iI (M.1 5)), .int (iI (M.1 6)), .ref (ad 4), .ref (ad 5), .int (iI (M.1 7)), .int (iI (M.1 8))])) := ⟨_, rfl⟩
      have hS : tl_S X s σ_18 H locs := by rw [eσ_18]; exact hS
      have he_19 : σ_18 (mo) = some (oO 8 [.int (iI (1)), .int (iI (M.1 1)), .ref (ad 0), .int (iI (M.1 2)), .ref (ad 1), .int (iI (M.1 3)), .ref (ad 2), .ref (ad 3), .int (iI (M.1 4)), .int (iI (M.1 5)), .int (iI (M.1 6)), .ref (ad 4), .ref (ad 5), .int (iI (M.1 7)), .int (iI (M.1 8))]) := by rw [eσ_18]; exact up_s
      have he_20 := up_kp eσ_18 (Ne.symm (tl_neA hm h0)) h0
      have he_21 := up_kp eσ_18 (Ne.symm (tl_neA hm h1)) h1
      have he_22 := up_kp eσ_18 (Ne.symm (tl_neA hm h2)) h2
      have he_23 := up_kp eσ_18 (Ne.symm (tl_neA hm h3)) h3
      have he_24 := up_kp eσ_18 (Ne.symm (tl_neA hm h4)) h4
      have he_25 := up_kp eσ_18 (Ne.symm (tl_neA hm h5)) h5
      have hfr := hfr.up hm mK_o eσ_18
      refine lv_aload_n C.1 C.2.1 dX2_fits_25 rfl (lv_at hl 0 rfl) ?_
      refine gf_X2_36_8 C hS he_19 rfl dX2_fits_26 ?_
      refine ti_if_ne (tgt := 63) C.1 C.2.1 dX2_fits_29 (by decide) ⟨by decide, by decide⟩ (fun hc_26 => ?_) (fun hc_26 => ?_)
      · skip
        refine ti_const C.1 C.2.1 dX2_fits_63 ?_
        exact r_z (z := 0) C hr hlk hS (by first | exact tb01 _ | omega | decide) (by first | (exfalso; omega; done) | rw [show mFits M1 pa b pl = (0, (mset M1 0 1)) from by unfold mFits; repeat (first | rw [if_pos (by omega)] | rw [if_neg (by omega)])]; rw [eM1]; exact ⟨rfl, ⟨he_19, he_20, he_21, he_22, he_23, he_24, he_25, hd⟩, hfr⟩) dX2_fits_64
      · skip
        exact absurd hc_26 (by decide)
    · skip
      refine ti_const C.1 C.2.1 dX2_fits_17 ?_
      refine lv_goto (tgt := 22) C.1 C.2.1 dX2_fits_18 (by decide) ?_
      refine gp_X2_36_8 C hS hm rfl rfl (Nat.le_of_ble_eq_true rfl) dX2_fits_22 (fun H locs hS => ?_)
      obtain ⟨σ_27, eσ_27⟩ : ∃ z, z = va_up σ (mo) (some (oO 8 [.int (iI (0)), .int (iI (M.1 1)), .ref (ad 0), .int (iI (M.1 2)), .ref (ad 1), .int (iI (M.1 3)), .ref (ad 2), .ref (ad 3), .int (iI (M.1 4)), .int (iI (M.1 5)), .int (iI (M.1 6)), .ref (ad 4), .ref (ad 5), .int (iI (M.1 7)), .int (iI (M.1 8))])) := ⟨_, rfl⟩
      have hS : tl_S X s σ_27 H locs := by rw [eσ_27]; exact hS
      have he_28 : σ_27 (mo) = some (oO 8 [.int (iI (0)), .int (iI (M.1 1)), .ref (ad 0), .int (iI (M.1 2)), .ref (ad 1), .int (iI (M.1 3)), .ref (ad 2), .ref (ad 3), .int (iI (M.1 4)), .int (iI (M.1 5)), .int (iI (M.1 6)), .ref (ad 4), .ref (ad 5), .int (iI (M.1 7)), .int (iI (M.1 8))]) := by rw [eσ_27]; exact up_s
      have he_29 := up_kp eσ_27 (Ne.symm (tl_neA hm h0)) h0
      have he_30 := up_kp eσ_27 (Ne.symm (tl_neA hm h1)) h1
      have he_31 := up_kp eσ_27 (Ne.symm (tl_neA hm h2)) h2
      have he_32 := up_kp eσ_27 (Ne.symm (tl_neA hm h3)) h3
      have he_33 := up_kp eσ_27 (Ne.symm (tl_neA hm h4)) h4
      have he_34 := up_kp eσ_27 (Ne.symm (tl_neA hm h5)) h5
      have hfr := hfr.up hm mK_o eσ_27
      have hM1 : MD X σ_27 mo ad M1 := by rw [eM1]; exact ⟨he_28, he_29, he_30, he_31, he_32, he_33, he_34, hd⟩
      have hI1 : mI M1 := by rw [eM1]; exact hI.t0 0 (by decide)
      obtain ⟨hm, h0, h1, h2, h3, h4, h5, hd⟩ := id hM1
      obtain ⟨hN, hB, hPt, hJ, hA, hWn⟩ := id hI1
      refine lv_aload_n C.1 C.2.1 dX2_fits_25 rfl (lv_at hl 0 rfl) ?_
      refine gf_X2_36_8 C hS hm rfl dX2_fits_26 ?_
      refine ti_if_ne (tgt := 63) C.1 C.2.1 dX2_fits_29 (by decide) ⟨by omega, by omega⟩ (fun hc_35 => ?_) (fun hc_35 => ?_)
      · skip
        refine ti_const C.1 C.2.1 dX2_fits_63 ?_
        exact r_z (z := 0) C hr hlk hS (by first | exact tb01 _ | omega | decide) (by first | (exfalso; omega; done) | rw [show mFits M1 pa b pl = (0, M1) from by unfold mFits; repeat (first | rw [if_pos (by omega)] | rw [if_neg (by omega)])]; exact ⟨rfl, ⟨hm, h0, h1, h2, h3, h4, h5, hd⟩, hfr⟩) dX2_fits_64
      · skip
        refine lv_iload_n C.1 C.2.1 dX2_fits_32 rfl (lv_at hl 3 rfl) ?_
        refine ti_const C.1 C.2.1 dX2_fits_33 ?_
        refine ti_sipush C.1 C.2.1 dX2_fits_34 (by decide) ?_
        refine tl_ci (t_S (n := 3) C hml hS (m2_isIn l X σ_27 (pl) (0) (3000) (by omega)) q1782 q1783 q53 q1784 (by decide +kernel) rfl hl.1 rfl (Nat.le_of_ble_eq_true rfl) dX2_fits_37 ⟨Nat.le_of_ble_eq_true rfl, Nat.le_of_ble_eq_true rfl⟩ ⟨Nat.le_refl _, Nat.le_refl _⟩) hS (fun r_36 σ_38 H locs hP_37 hS => ?_)
        obtain ⟨rfl, rfl⟩ := hP_37
        refine ti_tb_eq (tgt := 63) C.1 C.2.1 dX2_fits_40 (by decide) (fun hc_39 => ?_) (fun hc_39 => ?_)
        · skip
          refine ti_const C.1 C.2.1 dX2_fits_63 ?_
          exact r_z (z := 0) C hr hlk hS (by first | exact tb01 _ | omega | decide) (by first | (exfalso; omega; done) | rw [show mFits M1 pa b pl = (0, M1) from by unfold mFits; repeat (first | rw [if_pos (by omega)] | rw [if_neg (by omega)])]; exact ⟨rfl, ⟨hm, h0, h1, h2, h3, h4, h5, hd⟩, hfr⟩) dX2_fits_64
        · skip
          refine lv_aload_n C.1 C.2.1 dX2_fits_43 rfl (lv_at hl 0 rfl) ?_
          refine lv_iload_n C.1 C.2.1 dX2_fits_44 rfl (lv_at hl 1 rfl) ?_
          refine lv_aload_n C.1 C.2.1 dX2_fits_45 rfl (lv_at hl 0 rfl) ?_
          refine lv_iload_n C.1 C.2.1 dX2_fits_46 rfl (lv_at hl 1 rfl) ?_
          refine ti_const C.1 C.2.1 dX2_fits_47 ?_
          have hb_40 := hWn ((4 * pa) + 0)
          refine tl_ci (t_V (n := 2) (ci := 8) C hml hS (m2_want l X σ_27 mo ad M1 hM1 hI1 (pa) (0) (by omega)) q1817 q1819 qs28 q53 q1820 (by decide +kernel) hm rfl rfl hl.1 rfl (Nat.le_of_ble_eq_true rfl) dX2_fits_48 ⟨Nat.le_of_ble_eq_true rfl, Nat.le_of_ble_eq_true rfl⟩ ⟨Nat.le_refl _, Nat.le_refl _⟩) hS (fun r_41 σ_43 H locs hP_42 hS => ?_)
          obtain ⟨rfl, rfl⟩ := hP_42
          refine lv_iload_n C.1 C.2.1 dX2_fits_51 rfl (lv_at hl 2 rfl) ?_
          refine lv_iload_n C.1 C.2.1 dX2_fits_52 rfl (lv_at hl 3 rfl) ?_
          refine tl_ci (t_V (n := 4) (ci := 8) C hml hS (m2_isPossible l X σ_27 mo ad M1 hM1 hI1 (pa) ((M1.2 2 ((4 * pa) + 0))) (b) (pl) (by omega)) q1867 q1869 qs33 q53 q1870 (by decide +kernel) hm rfl rfl hl.1 rfl (Nat.le_of_ble_eq_true rfl) dX2_fits_53 ⟨Nat.le_of_ble_eq_true rfl, Nat.le_of_ble_eq_true rfl⟩ ⟨Nat.le_refl _, Nat.le_refl _⟩) hS (fun r_44 σ_46 H locs hP_45 hS => ?_)
          obtain ⟨rfl, rfl⟩ := hP_45
          refine ti_tb_eq (tgt := 63) C.1 C.2.1 dX2_fits_56 (by decide) (fun hc_47 => ?_) (fun hc_47 => ?_)
          · skip
            refine ti_const C.1 C.2.1 dX2_fits_63 ?_
            exact r_z (z := 0) C hr hlk hS (by first | exact tb01 _ | omega | decide) (by first | (exfalso; omega; done) | rw [show mFits M1 pa b pl = (0, M1) from by unfold mFits; repeat (first | rw [if_pos (by omega)] | rw [if_neg (by omega)])]; exact ⟨rfl, ⟨hm, h0, h1, h2, h3, h4, h5, hd⟩, hfr⟩) dX2_fits_64
          · skip
            refine ti_const C.1 C.2.1 dX2_fits_59 ?_
            refine lv_goto (tgt := 64) C.1 C.2.1 dX2_fits_60 (by decide) ?_
            exact r_z (z := 1) C hr hlk hS (by first | exact tb01 _ | omega | decide) (by first | (exfalso; omega; done) | rw [show mFits M1 pa b pl = (1, M1) from by unfold mFits; repeat (first | rw [if_pos (by omega)] | rw [if_neg (by omega)])]; exact ⟨rfl, ⟨hm, h0, h1, h2, h3, h4, h5, hd⟩, hfr⟩) dX2_fits_64

set_option maxHeartbeats 4000000 in
theorem m2_cut (l : Launch) (X : tl_X) (σ : tl_H) (mo : Nat) (ad : Nat → Nat) (M : mS) (hM : MD X σ mo ad M) (hI : mI M) (pa b pl : Int) (hr : -2147483648 ≤ pa ∧ pa ≤ 2147483647 ∧ -2147483648 ≤ b ∧ b ≤ 2147483647 ∧ -2147483648 ≤ pl ∧ pl ≤ 2147483647) (h6 : ∀ q, 0 ≤ q → q < M.1 3 → M.2 2 (4 * q + 3) ≠ 0 → M.1 6 ≤ 214) : tl_Met l X yX2_cut cX2_cut 4 ((Option.some FieldType.int)) 5 (0) (0) [.ref (mo), .int (iI (pa)), .int (iI (b)), .int (iI (pl))] σ (tl_Qi X (fun r σ' => r = iI (mCut (mset M 0 0) pa b pl).1 ∧ MD X σ' mo ad (mCut (mset M 0 0) pa b pl).2 ∧ mFr σ σ')) := by
  obtain ⟨M1, eM1⟩ : ∃ z, z = mset M 0 0 := ⟨_, rfl⟩
  rw [← eM1]
  refine tl_start (by decide) (Nat.le_of_ble_eq_true rfl) (fun p e s m below meth c ls C hr hml hlk hnm hS hl => ?_)
  have hl : lv_has ls 4 [(0, .ref (mo)), (1, .int (iI (pa))), (2, .int (iI (b))), (3, .int (iI (pl)))] := hl
  obtain ⟨hm, h0, h1, h2, h3, h4, h5, hd⟩ := id hM
  obtain ⟨hN, hB, hPt, hJ, hA, hWn⟩ := id hI
  have hfr : mFr σ σ := mFr.rf
  refine lv_aload_n C.1 C.2.1 dX2_cut_0 rfl (lv_at hl 0 rfl) ?_
  refine ti_const C.1 C.2.1 dX2_cut_1 ?_
  refine gp_X2_36_8 C hS hm rfl rfl (Nat.le_of_ble_eq_true rfl) dX2_cut_2 (fun H locs hS => ?_)
  obtain ⟨σ_1, eσ_1⟩ : ∃ z, z = va_up σ (mo) (some (oO 8 [.int (iI (0)), .int (iI (M.1 1)), .ref (ad 0), .int (iI (M.1 2)), .ref (ad 1), .int (iI (M.1 3)), .ref (ad 2), .ref (ad 3), .int (iI (M.1 4)), .int (iI (M.1 5)), .int (iI (M.1 6)), .ref (ad 4), .ref (ad 5), .int (iI (M.1 7)), .int (iI (M.1 8))])) := ⟨_, rfl⟩
  have hS : tl_S X s σ_1 H locs := by rw [eσ_1]; exact hS
  have he_2 : σ_1 (mo) = some (oO 8 [.int (iI (0)), .int (iI (M.1 1)), .ref (ad 0), .int (iI (M.1 2)), .ref (ad 1), .int (iI (M.1 3)), .ref (ad 2), .ref (ad 3), .int (iI (M.1 4)), .int (iI (M.1 5)), .int (iI (M.1 6)), .ref (ad 4), .ref (ad 5), .int (iI (M.1 7)), .int (iI (M.1 8))]) := by rw [eσ_1]; exact up_s
  have he_3 := up_kp eσ_1 (Ne.symm (tl_neA hm h0)) h0
  have he_4 := up_kp eσ_1 (Ne.symm (tl_neA hm h1)) h1
  have he_5 := up_kp eσ_1 (Ne.symm (tl_neA hm h2)) h2
  have he_6 := up_kp eσ_1 (Ne.symm (tl_neA hm h3)) h3
  have he_7 := up_kp eσ_1 (Ne.symm (tl_neA hm h4)) h4
  have he_8 := up_kp eσ_1 (Ne.symm (tl_neA hm h5)) h5
  have hfr := hfr.up hm mK_o eσ_1
  have hM1 : MD X σ_1 mo ad M1 := by rw [eM1]; exact ⟨he_2, he_3, he_4, he_5, he_6, he_7, he_8, hd⟩
  have hI1 : mI M1 := by rw [eM1]; exact hI.t0 0 (by decide)
  obtain ⟨hm, h0, h1, h2, h3, h4, h5, hd⟩ := id hM1
  obtain ⟨hN, hB, hPt, hJ, hA, hWn⟩ := id hI1
  refine lv_aload_n C.1 C.2.1 dX2_cut_5 rfl (lv_at hl 0 rfl) ?_
  refine lv_iload_n C.1 C.2.1 dX2_cut_6 rfl (lv_at hl 1 rfl) ?_
  refine tl_ci (t_V (n := 1) (ci := 8) C hml hS (m2_isPart l X σ_1 mo ad M1 hM1 hI1 (pa) (by omega)) q1863 q1865 qs32 q53 q1866 (by decide +kernel) hm rfl rfl hl.1 rfl (Nat.le_of_ble_eq_true rfl) dX2_cut_7 ⟨Nat.le_of_ble_eq_true rfl, Nat.le_of_ble_eq_true rfl⟩ ⟨Nat.le_refl _, Nat.le_refl _⟩) hS (fun r_9 σ_11 H locs hP_10 hS => ?_)
  obtain ⟨rfl, rfl⟩ := hP_10
  refine ti_tb_eq (tgt := 21) C.1 C.2.1 dX2_cut_10 (by decide) (fun hc_12 => ?_) (fun hc_12 => ?_)
  · skip
    refine lv_aload_n C.1 C.2.1 dX2_cut_21 rfl (lv_at hl 0 rfl) ?_
    refine ti_const C.1 C.2.1 dX2_cut_22 ?_
    refine tl_ci (t_V (n := 1) (ci := 8) C hml hS (m2_fail l X σ_1 mo ad M1 ⟨hm, h0, h1, h2, h3, h4, h5, hd⟩ (1)) q1785 q1787 qs21 q53 q1788 (by decide +kernel) hm rfl rfl hl.1 rfl (Nat.le_of_ble_eq_true rfl) dX2_cut_23 ⟨Nat.le_of_ble_eq_true rfl, Nat.le_of_ble_eq_true rfl⟩ ⟨Nat.le_refl _, Nat.le_refl _⟩) hS (fun r_13 σ_15 H locs hP_14 hS => ?_)
    obtain ⟨rfl, hM_16, hfr9⟩ := hP_14
    have hfr := hfr.trans hfr9
    obtain ⟨hm_17, hm_18, hm_19, hm_20, hm_21, hm_22, hm_23, hd⟩ := id hM_16
    exact r_i C hr hlk hS (by rw [show mCut M1 pa b pl = (0, (mset M1 0 (1))) from by (unfold mCut; (repeat (first | rw [if_pos (by omega)] | rw [if_neg (by omega)])); try rfl)]; exact ⟨rfl, ⟨hm_17, hm_18, hm_19, hm_20, hm_21, hm_22, hm_23, hd⟩, hfr⟩) dX2_cut_26
  · skip
    refine lv_aload_n C.1 C.2.1 dX2_cut_13 rfl (lv_at hl 0 rfl) ?_
    refine lv_iload_n C.1 C.2.1 dX2_cut_14 rfl (lv_at hl 2 rfl) ?_
    refine tl_ci (t_V (n := 1) (ci := 8) C hml hS (m2_isBoard l X σ_1 mo ad M1 hM1 hI1 (b) (by omega)) q1793 q1795 qs22 q53 q1796 (by decide +kernel) hm rfl rfl hl.1 rfl (Nat.le_of_ble_eq_true rfl) dX2_cut_15 ⟨Nat.le_of_ble_eq_true rfl, Nat.le_of_ble_eq_true rfl⟩ ⟨Nat.le_refl _, Nat.le_refl _⟩) hS (fun r_24 σ_26 H locs hP_25 hS => ?_)
    obtain ⟨rfl, rfl⟩ := hP_25
    refine ti_tb_ne (tgt := 27) C.1 C.2.1 dX2_cut_18 (by decide) (fun hc_27 => ?_) (fun hc_27 => ?_)
    · skip
      refine lv_aload_n C.1 C.2.1 dX2_cut_27 rfl (lv_at hl 0 rfl) ?_
      refine lv_iload_n C.1 C.2.1 dX2_cut_28 rfl (lv_at hl 1 rfl) ?_
      refine ti_const C.1 C.2.1 dX2_cut_29 ?_
      have hb_28 := hWn ((4 * pa) + 3)
      refine tl_ci (t_V (n := 2) (ci := 8) C hml hS (m2_want l X σ_1 mo ad M1 hM1 hI1 (pa) (3) (by omega)) q1817 q1819 qs28 q53 q1820 (by decide +kernel) hm rfl rfl hl.1 rfl (Nat.le_of_ble_eq_true rfl) dX2_cut_30 ⟨Nat.le_of_ble_eq_true rfl, Nat.le_of_ble_eq_true rfl⟩ ⟨Nat.le_refl _, Nat.le_refl _⟩) hS (fun r_29 σ_31 H locs hP_30 hS => ?_)
      obtain ⟨rfl, rfl⟩ := hP_30
      refine ti_if_eq (tgt := 63) C.1 C.2.1 dX2_cut_33 (by decide) ⟨by omega, by omega⟩ (fun hc_32 => ?_) (fun hc_32 => ?_)
      · skip
        refine lv_aload_n C.1 C.2.1 dX2_cut_63 rfl (lv_at hl 0 rfl) ?_
        refine ti_const C.1 C.2.1 dX2_cut_64 ?_
        refine tl_ci (t_V (n := 1) (ci := 8) C hml hS (m2_fail l X σ_1 mo ad M1 ⟨hm, h0, h1, h2, h3, h4, h5, hd⟩ (2)) q1785 q1787 qs21 q53 q1788 (by decide +kernel) hm rfl rfl hl.1 rfl (Nat.le_of_ble_eq_true rfl) dX2_cut_65 ⟨Nat.le_of_ble_eq_true rfl, Nat.le_of_ble_eq_true rfl⟩ ⟨Nat.le_refl _, Nat.le_refl _⟩) hS (fun r_33 σ_35 H locs hP_34 hS => ?_)
        obtain ⟨rfl, hM_36, hfr9⟩ := hP_34
        have hfr := hfr.trans hfr9
        obtain ⟨hm_37, hm_38, hm_39, hm_40, hm_41, hm_42, hm_43, hd⟩ := id hM_36
        exact r_i C hr hlk hS (by rw [show mCut M1 pa b pl = (0, (mset M1 0 (2))) from by (unfold mCut; (repeat (first | rw [if_pos (by omega)] | rw [if_neg (by omega)])); try rfl)]; exact ⟨rfl, ⟨hm_37, hm_38, hm_39, hm_40, hm_41, hm_42, hm_43, hd⟩, hfr⟩) dX2_cut_68
      · skip
        refine lv_iload_n C.1 C.2.1 dX2_cut_36 rfl (lv_at hl 3 rfl) ?_
        refine ti_const C.1 C.2.1 dX2_cut_37 ?_
        refine ti_sipush C.1 C.2.1 dX2_cut_38 (by decide) ?_
        refine tl_ci (t_S (n := 3) C hml hS (m2_isIn l X σ_1 (pl) (0) (3000) (by omega)) q1782 q1783 q53 q1784 (by decide +kernel) rfl hl.1 rfl (Nat.le_of_ble_eq_true rfl) dX2_cut_41 ⟨Nat.le_of_ble_eq_true rfl, Nat.le_of_ble_eq_true rfl⟩ ⟨Nat.le_refl _, Nat.le_refl _⟩) hS (fun r_44 σ_46 H locs hP_45 hS => ?_)
        obtain ⟨rfl, rfl⟩ := hP_45
        refine ti_tb_eq (tgt := 63) C.1 C.2.1 dX2_cut_44 (by decide) (fun hc_47 => ?_) (fun hc_47 => ?_)
        · skip
          refine lv_aload_n C.1 C.2.1 dX2_cut_63 rfl (lv_at hl 0 rfl) ?_
          refine ti_const C.1 C.2.1 dX2_cut_64 ?_
          refine tl_ci (t_V (n := 1) (ci := 8) C hml hS (m2_fail l X σ_1 mo ad M1 ⟨hm, h0, h1, h2, h3, h4, h5, hd⟩ (2)) q1785 q1787 qs21 q53 q1788 (by decide +kernel) hm rfl rfl hl.1 rfl (Nat.le_of_ble_eq_true rfl) dX2_cut_65 ⟨Nat.le_of_ble_eq_true rfl, Nat.le_of_ble_eq_true rfl⟩ ⟨Nat.le_refl _, Nat.le_refl _⟩) hS (fun r_48 σ_50 H locs hP_49 hS => ?_)
          obtain ⟨rfl, hM_51, hfr9⟩ := hP_49
          have hfr := hfr.trans hfr9
          obtain ⟨hm_52, hm_53, hm_54, hm_55, hm_56, hm_57, hm_58, hd⟩ := id hM_51
          exact r_i C hr hlk hS (by rw [show mCut M1 pa b pl = (0, (mset M1 0 (2))) from by (unfold mCut; (repeat (first | rw [if_pos (by omega)] | rw [if_neg (by omega)])); try rfl)]; exact ⟨rfl, ⟨hm_52, hm_53, hm_54, hm_55, hm_56, hm_57, hm_58, hd⟩, hfr⟩) dX2_cut_68
        · skip
          refine lv_aload_n C.1 C.2.1 dX2_cut_47 rfl (lv_at hl 0 rfl) ?_
          refine lv_iload_n C.1 C.2.1 dX2_cut_48 rfl (lv_at hl 1 rfl) ?_
          refine lv_aload_n C.1 C.2.1 dX2_cut_49 rfl (lv_at hl 0 rfl) ?_
          refine lv_iload_n C.1 C.2.1 dX2_cut_50 rfl (lv_at hl 1 rfl) ?_
          refine ti_const C.1 C.2.1 dX2_cut_51 ?_
          have hb_59 := hWn ((4 * pa) + 0)
          refine tl_ci (t_V (n := 2) (ci := 8) C hml hS (m2_want l X σ_1 mo ad M1 hM1 hI1 (pa) (0) (by omega)) q1817 q1819 qs28 q53 q1820 (by decide +kernel) hm rfl rfl hl.1 rfl (Nat.le_of_ble_eq_true rfl) dX2_cut_52 ⟨Nat.le_of_ble_eq_true rfl, Nat.le_of_ble_eq_true rfl⟩ ⟨Nat.le_refl _, Nat.le_refl _⟩) hS (fun r_60 σ_62 H locs hP_61 hS => ?_)
          obtain ⟨rfl, rfl⟩ := hP_61
          refine lv_iload_n C.1 C.2.1 dX2_cut_55 rfl (lv_at hl 2 rfl) ?_
          refine lv_iload_n C.1 C.2.1 dX2_cut_56 rfl (lv_at hl 3 rfl) ?_
          refine tl_ci (t_V (n := 4) (ci := 8) C hml hS (m2_isPossible l X σ_1 mo ad M1 hM1 hI1 (pa) ((M1.2 2 ((4 * pa) + 0))) (b) (pl) (by omega)) q1867 q1869 qs33 q53 q1870 (by decide +kernel) hm rfl rfl hl.1 rfl (Nat.le_of_ble_eq_true rfl) dX2_cut_57 ⟨Nat.le_of_ble_eq_true rfl, Nat.le_of_ble_eq_true rfl⟩ ⟨Nat.le_refl _, Nat.le_refl _⟩) hS (fun r_63 σ_65 H locs hP_64 hS => ?_)
          obtain ⟨rfl, rfl⟩ := hP_64
          refine ti_tb_ne (tgt := 69) C.1 C.2.1 dX2_cut_60 (by decide) (fun hc_66 => ?_) (fun hc_66 => ?_)
          · skip
            have h66 : M1.1 6 ≤ 214 := by rw [eM1]; exact h6 pa (by omega) (by rw [eM1] at *; exact (by omega : pa < (mset M 0 0).1 3)) (by rw [eM1] at *; assumption)
            refine lv_aload_n C.1 C.2.1 dX2_cut_69 rfl (lv_at hl 0 rfl) ?_
            refine lv_iload_n C.1 C.2.1 dX2_cut_70 rfl (lv_at hl 1 rfl) ?_
            refine lv_iload_n C.1 C.2.1 dX2_cut_71 rfl (lv_at hl 2 rfl) ?_
            refine lv_iload_n C.1 C.2.1 dX2_cut_72 rfl (lv_at hl 3 rfl) ?_
            refine lv_aload_n C.1 C.2.1 dX2_cut_73 rfl (lv_at hl 0 rfl) ?_
            refine lv_iload_n C.1 C.2.1 dX2_cut_74 rfl (lv_at hl 1 rfl) ?_
            refine ti_const C.1 C.2.1 dX2_cut_75 ?_
            have hb_67 := hWn ((4 * pa) + 0)
            refine tl_ci (t_V (n := 2) (ci := 8) C hml hS (m2_want l X σ_1 mo ad M1 hM1 hI1 (pa) (0) (by omega)) q1817 q1819 qs28 q53 q1820 (by decide +kernel) hm rfl rfl hl.1 rfl (Nat.le_of_ble_eq_true rfl) dX2_cut_76 ⟨Nat.le_of_ble_eq_true rfl, Nat.le_of_ble_eq_true rfl⟩ ⟨Nat.le_refl _, Nat.le_refl _⟩) hS (fun r_68 σ_70 H locs hP_69 hS => ?_)
            obtain ⟨rfl, rfl⟩ := hP_69
            refine ti_const C.1 C.2.1 dX2_cut_79 ?_
            refine tl_cv (t_V (n := 5) (ci := 8) C hml hS (m2_add l X σ_1 mo ad M1 ⟨hm, h0, h1, h2, h3, h4, h5, hd⟩ (pa) (b) (pl) ((M1.2 2 ((4 * pa) + 0))) (0) (by show 0 ≤ M1.1 6 ∧ M1.1 6 < 216; omega) (by omega)) q1891 q1893 qs37 q53 q1894 (by decide +kernel) hm rfl rfl hl.1 rfl (Nat.le_of_ble_eq_true rfl) dX2_cut_80 ⟨Nat.le_of_ble_eq_true rfl, Nat.le_of_ble_eq_true rfl⟩ ⟨Nat.le_refl _, Nat.le_refl _⟩) hS (fun σ_73 H locs hP_72 hS => ?_)
            obtain ⟨hM_74, hfr9⟩ := hP_72
            have hfr := hfr.trans hfr9
            obtain ⟨hm_75, hm_76, hm_77, hm_78, hm_79, hm_80, hm_81, hd⟩ := id hM_74
            refine lv_aload_n C.1 C.2.1 dX2_cut_83 rfl (lv_at hl 0 rfl) ?_
            refine lv_iload_n C.1 C.2.1 dX2_cut_84 rfl (lv_at hl 1 rfl) ?_
            refine tl_ci (t_V (n := 1) (ci := 8) C hml hS (m2_lessLeft l X σ_73 mo ad (mAdd M1 (pa) (b) (pl) ((M1.2 2 ((4 * pa) + 0))) (0)) ⟨hm_75, hm_76, hm_77, hm_78, hm_79, hm_80, hm_81, hd⟩ (pa) (by omega)) q1895 q1897 qs38 q53 q1898 (by decide +kernel) hm_75 rfl rfl hl.1 rfl (Nat.le_of_ble_eq_true rfl) dX2_cut_85 ⟨Nat.le_of_ble_eq_true rfl, Nat.le_of_ble_eq_true rfl⟩ ⟨Nat.le_refl _, Nat.le_refl _⟩) hS (fun r_82 σ_84 H locs hP_83 hS => ?_)
            obtain ⟨rfl, hM_85, hfr9⟩ := hP_83
            have hfr := hfr.trans hfr9
            obtain ⟨hm_86, hm_87, hm_88, hm_89, hm_90, hm_91, hm_92, hd⟩ := id hM_85
            exact r_i C hr hlk hS (by rw [show mCut M1 pa b pl = (((mAdd M1 (pa) (b) (pl) ((M1.2 2 ((4 * pa) + 0))) (0)).2 2 (4 * pa + 3) - 1), (mLess (mAdd M1 (pa) (b) (pl) ((M1.2 2 ((4 * pa) + 0))) (0)) (pa))) from by (unfold mCut; (repeat (first | rw [if_pos (by omega)] | rw [if_neg (by omega)])); try rfl)]; exact ⟨rfl, ⟨hm_86, hm_87, hm_88, hm_89, hm_90, hm_91, hm_92, hd⟩, hfr⟩) dX2_cut_88
          · skip
            refine lv_aload_n C.1 C.2.1 dX2_cut_63 rfl (lv_at hl 0 rfl) ?_
            refine ti_const C.1 C.2.1 dX2_cut_64 ?_
            refine tl_ci (t_V (n := 1) (ci := 8) C hml hS (m2_fail l X σ_1 mo ad M1 ⟨hm, h0, h1, h2, h3, h4, h5, hd⟩ (2)) q1785 q1787 qs21 q53 q1788 (by decide +kernel) hm rfl rfl hl.1 rfl (Nat.le_of_ble_eq_true rfl) dX2_cut_65 ⟨Nat.le_of_ble_eq_true rfl, Nat.le_of_ble_eq_true rfl⟩ ⟨Nat.le_refl _, Nat.le_refl _⟩) hS (fun r_93 σ_95 H locs hP_94 hS => ?_)
            obtain ⟨rfl, hM_96, hfr9⟩ := hP_94
            have hfr := hfr.trans hfr9
            obtain ⟨hm_97, hm_98, hm_99, hm_100, hm_101, hm_102, hm_103, hd⟩ := id hM_96
            exact r_i C hr hlk hS (by rw [show mCut M1 pa b pl = (0, (mset M1 0 (2))) from by (unfold mCut; (repeat (first | rw [if_pos (by omega)] | rw [if_neg (by omega)])); try rfl)]; exact ⟨rfl, ⟨hm_97, hm_98, hm_99, hm_100, hm_101, hm_102, hm_103, hd⟩, hfr⟩) dX2_cut_68
    · skip
      refine lv_aload_n C.1 C.2.1 dX2_cut_21 rfl (lv_at hl 0 rfl) ?_
      refine ti_const C.1 C.2.1 dX2_cut_22 ?_
      refine tl_ci (t_V (n := 1) (ci := 8) C hml hS (m2_fail l X σ_1 mo ad M1 ⟨hm, h0, h1, h2, h3, h4, h5, hd⟩ (1)) q1785 q1787 qs21 q53 q1788 (by decide +kernel) hm rfl rfl hl.1 rfl (Nat.le_of_ble_eq_true rfl) dX2_cut_23 ⟨Nat.le_of_ble_eq_true rfl, Nat.le_of_ble_eq_true rfl⟩ ⟨Nat.le_refl _, Nat.le_refl _⟩) hS (fun r_104 σ_106 H locs hP_105 hS => ?_)
      obtain ⟨rfl, hM_107, hfr9⟩ := hP_105
      have hfr := hfr.trans hfr9
      obtain ⟨hm_108, hm_109, hm_110, hm_111, hm_112, hm_113, hm_114, hd⟩ := id hM_107
      exact r_i C hr hlk hS (by rw [show mCut M1 pa b pl = (0, (mset M1 0 (1))) from by (unfold mCut; (repeat (first | rw [if_pos (by omega)] | rw [if_neg (by omega)])); try rfl)]; exact ⟨rfl, ⟨hm_108, hm_109, hm_110, hm_111, hm_112, hm_113, hm_114, hd⟩, hfr⟩) dX2_cut_26

set_option maxHeartbeats 4000000 in
theorem m2_undo (l : Launch) (X : tl_X) (σ : tl_H) (mo : Nat) (ad : Nat → Nat) (M : mS) (hM : MD X σ mo ad M) (hI : mI M)   : tl_Met l X yX2_undo cX2_undo 2 ((Option.some FieldType.int)) 4 (0) (0) [.ref (mo)] σ (tl_Qi X (fun r σ' => r = iI (mUndo (mset M 0 0) ).1 ∧ MD X σ' mo ad (mUndo (mset M 0 0) ).2 ∧ mFr σ σ')) := by
  obtain ⟨M1, eM1⟩ : ∃ z, z = mset M 0 0 := ⟨_, rfl⟩
  rw [← eM1]
  refine tl_start (by decide) (Nat.le_of_ble_eq_true rfl) (fun p e s m below meth c ls C hr hml hlk hnm hS hl => ?_)
  have hl : lv_has ls 2 [(0, .ref (mo))] := hl
  obtain ⟨hm, h0, h1, h2, h3, h4, h5, hd⟩ := id hM
  obtain ⟨hN, hB, hPt, hJ, hA, hWn⟩ := id hI
  have hfr : mFr σ σ := mFr.rf
  refine lv_aload_n C.1 C.2.1 dX2_undo_0 rfl (lv_at hl 0 rfl) ?_
  refine ti_const C.1 C.2.1 dX2_undo_1 ?_
  refine gp_X2_36_8 C hS hm rfl rfl (Nat.le_of_ble_eq_true rfl) dX2_undo_2 (fun H locs hS => ?_)
  obtain ⟨σ_1, eσ_1⟩ : ∃ z, z = va_up σ (mo) (some (oO 8 [.int (iI (0)), .int (iI (M.1 1)), .ref (ad 0), .int (iI (M.1 2)), .ref (ad 1), .int (iI (M.1 3)), .ref (ad 2), .ref (ad 3), .int (iI (M.1 4)), .int (iI (M.1 5)), .int (iI (M.1 6)), .ref (ad 4), .ref (ad 5), .int (iI (M.1 7)), .int (iI (M.1 8))])) := ⟨_, rfl⟩
  have hS : tl_S X s σ_1 H locs := by rw [eσ_1]; exact hS
  have he_2 : σ_1 (mo) = some (oO 8 [.int (iI (0)), .int (iI (M.1 1)), .ref (ad 0), .int (iI (M.1 2)), .ref (ad 1), .int (iI (M.1 3)), .ref (ad 2), .ref (ad 3), .int (iI (M.1 4)), .int (iI (M.1 5)), .int (iI (M.1 6)), .ref (ad 4), .ref (ad 5), .int (iI (M.1 7)), .int (iI (M.1 8))]) := by rw [eσ_1]; exact up_s
  have he_3 := up_kp eσ_1 (Ne.symm (tl_neA hm h0)) h0
  have he_4 := up_kp eσ_1 (Ne.symm (tl_neA hm h1)) h1
  have he_5 := up_kp eσ_1 (Ne.symm (tl_neA hm h2)) h2
  have he_6 := up_kp eσ_1 (Ne.symm (tl_neA hm h3)) h3
  have he_7 := up_kp eσ_1 (Ne.symm (tl_neA hm h4)) h4
  have he_8 := up_kp eσ_1 (Ne.symm (tl_neA hm h5)) h5
  have hfr := hfr.up hm mK_o eσ_1
  have hM1 : MD X σ_1 mo ad M1 := by rw [eM1]; exact ⟨he_2, he_3, he_4, he_5, he_6, he_7, he_8, hd⟩
  have hI1 : mI M1 := by rw [eM1]; exact hI.t0 0 (by decide)
  obtain ⟨hm, h0, h1, h2, h3, h4, h5, hd⟩ := id hM1
  obtain ⟨hN, hB, hPt, hJ, hA, hWn⟩ := id hI1
  refine lv_aload_n C.1 C.2.1 dX2_undo_5 rfl (lv_at hl 0 rfl) ?_
  refine gf_X2_63_8 C hS hm rfl dX2_undo_6 ?_
  refine ti_if_ne (tgt := 18) C.1 C.2.1 dX2_undo_9 (by decide) ⟨by omega, by omega⟩ (fun hc_9 => ?_) (fun hc_9 => ?_)
  · skip
    refine lv_aload_n C.1 C.2.1 dX2_undo_18 rfl (lv_at hl 0 rfl) ?_
    refine lv_aload_n C.1 C.2.1 dX2_undo_19 rfl (lv_at hl 0 rfl) ?_
    refine gf_X2_63_8 C hS hm rfl dX2_undo_20 ?_
    refine ti_const C.1 C.2.1 dX2_undo_23 ?_
    refine ti_isub C.1 C.2.1 dX2_undo_24 ?_
    have hb_10 := hB 4 ((4 * (M1.1 6 - 1)) + 3)
    have hpt_11 := hPt ((M1.1 6 - 1)) (by omega) (by omega)
    refine tl_ci (t_V (n := 1) (ci := 8) C hml hS (m2_partOf l X σ_1 mo ad M1 hM1 hI1 ((M1.1 6 - 1)) (by omega)) q1813 q1815 qs27 q53 q1816 (by decide +kernel) hm rfl rfl hl.1 rfl (Nat.le_of_ble_eq_true rfl) dX2_undo_25 ⟨Nat.le_of_ble_eq_true rfl, Nat.le_of_ble_eq_true rfl⟩ ⟨Nat.le_refl _, Nat.le_refl _⟩) hS (fun r_12 σ_14 H locs hP_13 hS => ?_)
    obtain ⟨rfl, rfl⟩ := hP_13
    refine lv_istore_n (lv' := [(1, .int (iI ((M1.2 4 ((4 * (M1.1 6 - 1)) + 3))))), (0, .ref (mo))]) C.1 C.2.1 dX2_undo_28 rfl hl (by decide) rfl (fun ls hl => ?_)
    refine lv_aload_n C.1 C.2.1 dX2_undo_29 rfl (lv_at hl 1 rfl) ?_
    refine lv_dup C.1 C.2.1 dX2_undo_30 rfl ?_
    refine gf_X2_63_8 C hS hm rfl dX2_undo_31 ?_
    refine lv_aload_n C.1 C.2.1 dX2_undo_34 rfl (lv_at hl 1 rfl) ?_
    refine gf_X2_33_8 C hS hm rfl dX2_undo_35 ?_
    refine lv_aload_n C.1 C.2.1 dX2_undo_38 rfl (lv_at hl 1 rfl) ?_
    refine gf_X2_63_8 C hS hm rfl dX2_undo_39 ?_
    refine ti_const C.1 C.2.1 dX2_undo_42 ?_
    refine ti_isub C.1 C.2.1 dX2_undo_43 ?_
    refine h_zaldZ C hS h5 (by omega) (by omega) (by omega) dX2_undo_44 ?_
    have hb_15 := hB 5 ((M1.1 6 - 1))
    refine ti_if_eq (tgt := 52) C.1 C.2.1 dX2_undo_45 (by decide) ⟨by omega, by omega⟩ (fun hc_16 => ?_) (fun hc_16 => ?_)
    · skip
      refine ti_const C.1 C.2.1 dX2_undo_52 ?_
      refine ti_isub C.1 C.2.1 dX2_undo_53 ?_
      refine gp_X2_63_8 C hS hm rfl rfl (Nat.le_of_ble_eq_true rfl) dX2_undo_54 (fun H locs hS => ?_)
      obtain ⟨σ_17, eσ_17⟩ : ∃ z, z = va_up σ_1 (mo) (some (oO 8 [.int (iI (M1.1 0)), .int (iI (M1.1 1)), .ref (ad 0), .int (iI (M1.1 2)), .ref (ad 1), .int (iI (M1.1 3)), .ref (ad 2), .ref (ad 3), .int (iI (M1.1 4)), .int (iI (M1.1 5)), .int (iI ((M1.1 6 - 1))), .ref (ad 4), .ref (ad 5), .int (iI (M1.1 7)), .int (iI (M1.1 8))])) := ⟨_, rfl⟩
      have hS : tl_S X s σ_17 H locs := by rw [eσ_17]; exact hS
      have he_18 : σ_17 (mo) = some (oO 8 [.int (iI (M1.1 0)), .int (iI (M1.1 1)), .ref (ad 0), .int (iI (M1.1 2)), .ref (ad 1), .int (iI (M1.1 3)), .ref (ad 2), .ref (ad 3), .int (iI (M1.1 4)), .int (iI (M1.1 5)), .int (iI ((M1.1 6 - 1))), .ref (ad 4), .ref (ad 5), .int (iI (M1.1 7)), .int (iI (M1.1 8))]) := by rw [eσ_17]; exact up_s
      have he_19 := up_kp eσ_17 (Ne.symm (tl_neA hm h0)) h0
      have he_20 := up_kp eσ_17 (Ne.symm (tl_neA hm h1)) h1
      have he_21 := up_kp eσ_17 (Ne.symm (tl_neA hm h2)) h2
      have he_22 := up_kp eσ_17 (Ne.symm (tl_neA hm h3)) h3
      have he_23 := up_kp eσ_17 (Ne.symm (tl_neA hm h4)) h4
      have he_24 := up_kp eσ_17 (Ne.symm (tl_neA hm h5)) h5
      have hfr := hfr.up hm mK_o eσ_17
      refine lv_aload_n C.1 C.2.1 dX2_undo_57 rfl (lv_at hl 1 rfl) ?_
      refine gf_X2_16_8 C hS he_18 rfl dX2_undo_58 ?_
      refine ti_const C.1 C.2.1 dX2_undo_61 ?_
      refine lv_iload_n C.1 C.2.1 dX2_undo_62 rfl (lv_at hl 0 rfl) ?_
      refine ti_imul C.1 C.2.1 dX2_undo_63 ?_
      refine ti_const C.1 C.2.1 dX2_undo_64 ?_
      refine ti_iadd C.1 C.2.1 dX2_undo_65 ?_
      refine lv_dup2_11 C.1 C.2.1 dX2_undo_66 rfl rfl ?_
      refine h_ialdZ C hS he_21 (by omega) (by omega) (by omega) dX2_undo_67 ?_
      have hb_25 := hB 2 (((4 * (M1.2 4 ((4 * (M1.1 6 - 1)) + 3))) + 3))
      refine ti_const C.1 C.2.1 dX2_undo_68 ?_
      refine ti_iadd C.1 C.2.1 dX2_undo_69 ?_
      refine h_iastZ C hS he_21 (by omega) (by omega) (by omega) dX2_undo_70 (fun H locs hS => ?_)
      obtain ⟨σ_26, eσ_26⟩ : ∃ z, z = va_up σ_17 (ad 2) (some (oI (X.2.2.1 0) 48 (zA (zup (M1.2 2) (((4 * (M1.2 4 ((4 * (M1.1 6 - 1)) + 3))) + 3)) ((((M1.2 2) (((4 * (M1.2 4 ((4 * (M1.1 6 - 1)) + 3))) + 3))) + 1)))))) := ⟨_, rfl⟩
      rw [← eσ_26] at hS
      have he_27 := up_kp eσ_26 (tl_neA he_18 he_21) he_18
      have he_28 := up_kp eσ_26 (fun z => absurd (hd 0 2 (by decide) (by decide) z) (by decide)) he_19
      have he_29 := up_kp eσ_26 (fun z => absurd (hd 1 2 (by decide) (by decide) z) (by decide)) he_20
      have he_30 : σ_26 (ad 2) = some (oI (X.2.2.1 0) 48 (zA (zup (M1.2 2) (((4 * (M1.2 4 ((4 * (M1.1 6 - 1)) + 3))) + 3)) ((((M1.2 2) (((4 * (M1.2 4 ((4 * (M1.1 6 - 1)) + 3))) + 3))) + 1))))) := by rw [eσ_26]; exact up_s
      have he_31 := up_kp eσ_26 (fun z => absurd (hd 3 2 (by decide) (by decide) z) (by decide)) he_22
      have he_32 := up_kp eσ_26 (fun z => absurd (hd 4 2 (by decide) (by decide) z) (by decide)) he_23
      have he_33 := up_kp eσ_26 (fun z => absurd (hd 5 2 (by decide) (by decide) z) (by decide)) he_24
      have hfr := hfr.up he_21 mK_i eσ_26
      refine lv_iload_n C.1 C.2.1 dX2_undo_71 rfl (lv_at hl 0 rfl) ?_
      exact r_i C hr hlk hS (by rw [show mUndo M1  = ((M1.2 4 ((4 * (M1.1 6 - 1)) + 3)), (aset (mset M1 6 ((M1.1 6 - 1))) 2 (((4 * (M1.2 4 ((4 * (M1.1 6 - 1)) + 3))) + 3)) ((((M1.2 2) (((4 * (M1.2 4 ((4 * (M1.1 6 - 1)) + 3))) + 3))) + 1)))) from by (unfold mUndo; (repeat (first | rw [if_pos (by omega)] | rw [if_neg (by omega)])); try rfl)]; exact ⟨rfl, ⟨he_27, he_28, he_29, he_30, he_31, he_32, he_33, hd⟩, hfr⟩) dX2_undo_72
    · skip
      refine ti_const C.1 C.2.1 dX2_undo_48 ?_
      refine lv_goto (tgt := 53) C.1 C.2.1 dX2_undo_49 (by decide) ?_
      refine ti_isub C.1 C.2.1 dX2_undo_53 ?_
      refine gp_X2_63_8 C hS hm rfl rfl (Nat.le_of_ble_eq_true rfl) dX2_undo_54 (fun H locs hS => ?_)
      obtain ⟨σ_34, eσ_34⟩ : ∃ z, z = va_up σ_1 (mo) (some (oO 8 [.int (iI (M1.1 0)), .int (iI (M1.1 1)), .ref (ad 0), .int (iI (M1.1 2)), .ref (ad 1), .int (iI (M1.1 3)), .ref (ad 2), .ref (ad 3), .int (iI (M1.1 4)), .int (iI (M1.1 5)), .int (iI ((M1.1 6 - 2))), .ref (ad 4), .ref (ad 5), .int (iI (M1.1 7)), .int (iI (M1.1 8))])) := ⟨_, rfl⟩
      have hS : tl_S X s σ_34 H locs := by rw [eσ_34]; exact hS
      have he_35 : σ_34 (mo) = some (oO 8 [.int (iI (M1.1 0)), .int (iI (M1.1 1)), .ref (ad 0), .int (iI (M1.1 2)), .ref (ad 1), .int (iI (M1.1 3)), .ref (ad 2), .ref (ad 3), .int (iI (M1.1 4)), .int (iI (M1.1 5)), .int (iI ((M1.1 6 - 2))), .ref (ad 4), .ref (ad 5), .int (iI (M1.1 7)), .int (iI (M1.1 8))]) := by rw [eσ_34]; exact up_s
      have he_36 := up_kp eσ_34 (Ne.symm (tl_neA hm h0)) h0
      have he_37 := up_kp eσ_34 (Ne.symm (tl_neA hm h1)) h1
      have he_38 := up_kp eσ_34 (Ne.symm (tl_neA hm h2)) h2
      have he_39 := up_kp eσ_34 (Ne.symm (tl_neA hm h3)) h3
      have he_40 := up_kp eσ_34 (Ne.symm (tl_neA hm h4)) h4
      have he_41 := up_kp eσ_34 (Ne.symm (tl_neA hm h5)) h5
      have hfr := hfr.up hm mK_o eσ_34
      refine lv_aload_n C.1 C.2.1 dX2_undo_57 rfl (lv_at hl 1 rfl) ?_
      refine gf_X2_16_8 C hS he_35 rfl dX2_undo_58 ?_
      refine ti_const C.1 C.2.1 dX2_undo_61 ?_
      refine lv_iload_n C.1 C.2.1 dX2_undo_62 rfl (lv_at hl 0 rfl) ?_
      refine ti_imul C.1 C.2.1 dX2_undo_63 ?_
      refine ti_const C.1 C.2.1 dX2_undo_64 ?_
      refine ti_iadd C.1 C.2.1 dX2_undo_65 ?_
      refine lv_dup2_11 C.1 C.2.1 dX2_undo_66 rfl rfl ?_
      refine h_ialdZ C hS he_38 (by omega) (by omega) (by omega) dX2_undo_67 ?_
      have hb_42 := hB 2 (((4 * (M1.2 4 ((4 * (M1.1 6 - 1)) + 3))) + 3))
      refine ti_const C.1 C.2.1 dX2_undo_68 ?_
      refine ti_iadd C.1 C.2.1 dX2_undo_69 ?_
      refine h_iastZ C hS he_38 (by omega) (by omega) (by omega) dX2_undo_70 (fun H locs hS => ?_)
      obtain ⟨σ_43, eσ_43⟩ : ∃ z, z = va_up σ_34 (ad 2) (some (oI (X.2.2.1 0) 48 (zA (zup (M1.2 2) (((4 * (M1.2 4 ((4 * (M1.1 6 - 1)) + 3))) + 3)) ((((M1.2 2) (((4 * (M1.2 4 ((4 * (M1.1 6 - 1)) + 3))) + 3))) + 1)))))) := ⟨_, rfl⟩
      rw [← eσ_43] at hS
      have he_44 := up_kp eσ_43 (tl_neA he_35 he_38) he_35
      have he_45 := up_kp eσ_43 (fun z => absurd (hd 0 2 (by decide) (by decide) z) (by decide)) he_36
      have he_46 := up_kp eσ_43 (fun z => absurd (hd 1 2 (by decide) (by decide) z) (by decide)) he_37
      have he_47 : σ_43 (ad 2) = some (oI (X.2.2.1 0) 48 (zA (zup (M1.2 2) (((4 * (M1.2 4 ((4 * (M1.1 6 - 1)) + 3))) + 3)) ((((M1.2 2) (((4 * (M1.2 4 ((4 * (M1.1 6 - 1)) + 3))) + 3))) + 1))))) := by rw [eσ_43]; exact up_s
      have he_48 := up_kp eσ_43 (fun z => absurd (hd 3 2 (by decide) (by decide) z) (by decide)) he_39
      have he_49 := up_kp eσ_43 (fun z => absurd (hd 4 2 (by decide) (by decide) z) (by decide)) he_40
      have he_50 := up_kp eσ_43 (fun z => absurd (hd 5 2 (by decide) (by decide) z) (by decide)) he_41
      have hfr := hfr.up he_38 mK_i eσ_43
      refine lv_iload_n C.1 C.2.1 dX2_undo_71 rfl (lv_at hl 0 rfl) ?_
      exact r_i C hr hlk hS (by rw [show mUndo M1  = ((M1.2 4 ((4 * (M1.1 6 - 1)) + 3)), (aset (mset M1 6 ((M1.1 6 - 2))) 2 (((4 * (M1.2 4 ((4 * (M1.1 6 - 1)) + 3))) + 3)) ((((M1.2 2) (((4 * (M1.2 4 ((4 * (M1.1 6 - 1)) + 3))) + 3))) + 1)))) from by (unfold mUndo; (repeat (first | rw [if_pos (by omega)] | rw [if_neg (by omega)])); try rfl)]; exact ⟨rfl, ⟨he_44, he_45, he_46, he_47, he_48, he_49, he_50, hd⟩, hfr⟩) dX2_undo_72
  · skip
    refine lv_aload_n C.1 C.2.1 dX2_undo_12 rfl (lv_at hl 0 rfl) ?_
    refine ti_const C.1 C.2.1 dX2_undo_13 ?_
    refine tl_ci (t_V (n := 1) (ci := 8) C hml hS (m2_fail l X σ_1 mo ad M1 ⟨hm, h0, h1, h2, h3, h4, h5, hd⟩ (1)) q1785 q1787 qs21 q53 q1788 (by decide +kernel) hm rfl rfl hl.1 rfl (Nat.le_of_ble_eq_true rfl) dX2_undo_14 ⟨Nat.le_of_ble_eq_true rfl, Nat.le_of_ble_eq_true rfl⟩ ⟨Nat.le_refl _, Nat.le_refl _⟩) hS (fun r_51 σ_53 H locs hP_52 hS => ?_)
    obtain ⟨rfl, hM_54, hfr9⟩ := hP_52
    have hfr := hfr.trans hfr9
    obtain ⟨hm_55, hm_56, hm_57, hm_58, hm_59, hm_60, hm_61, hd⟩ := id hM_54
    exact r_i C hr hlk hS (by rw [show mUndo M1  = (0, (mset M1 0 (1))) from by (unfold mUndo; (repeat (first | rw [if_pos (by omega)] | rw [if_neg (by omega)])); try rfl)]; exact ⟨rfl, ⟨hm_55, hm_56, hm_57, hm_58, hm_59, hm_60, hm_61, hd⟩, hfr⟩) dX2_undo_17

set_option maxHeartbeats 4000000 in
theorem m2_join (l : Launch) (X : tl_X) (σ : tl_H) (mo : Nat) (ad : Nat → Nat) (M : mS) (hM : MD X σ mo ad M) (hI : mI M) (pa a pA ln b pB : Int) (hr : -2147483648 ≤ pa ∧ pa ≤ 2147483647 ∧ -2147483648 ≤ a ∧ a ≤ 2147483647 ∧ -2147483648 ≤ pA ∧ pA ≤ 2147483647 ∧ -2147483648 ≤ ln ∧ ln ≤ 2147483647 ∧ -2147483648 ≤ b ∧ b ≤ 2147483647 ∧ -2147483648 ≤ pB ∧ pB ≤ 2147483647) (h6 : ∀ q, 0 ≤ q → q < M.1 3 → M.2 2 (4 * q + 3) ≠ 0 → M.1 6 ≤ 214) : tl_Met l X yX2_join cX2_join 8 ((Option.some FieldType.int)) 5 (0) (0) [.ref (mo), .int (iI (pa)), .int (iI (a)), .int (iI (pA)), .int (iI (ln)), .int (iI (b)), .int (iI (pB))] σ (tl_Qi X (fun r σ' => r = iI (mJoin (mset M 0 0) pa a pA ln b pB).1 ∧ MD X σ' mo ad (mJoin (mset M 0 0) pa a pA ln b pB).2 ∧ mFr σ σ')) := by
  obtain ⟨M1, eM1⟩ : ∃ z, z = mset M 0 0 := ⟨_, rfl⟩
  rw [← eM1]
  refine tl_start (by decide) (Nat.le_of_ble_eq_true rfl) (fun p e s m below meth c ls C hr hml hlk hnm hS hl => ?_)
  have hl : lv_has ls 8 [(0, .ref (mo)), (1, .int (iI (pa))), (2, .int (iI (a))), (3, .int (iI (pA))), (4, .int (iI (ln))), (5, .int (iI (b))), (6, .int (iI (pB)))] := hl
  obtain ⟨hm, h0, h1, h2, h3, h4, h5, hd⟩ := id hM
  obtain ⟨hN, hB, hPt, hJ, hA, hWn⟩ := id hI
  have hfr : mFr σ σ := mFr.rf
  refine lv_aload_n C.1 C.2.1 dX2_join_0 rfl (lv_at hl 0 rfl) ?_
  refine ti_const C.1 C.2.1 dX2_join_1 ?_
  refine gp_X2_36_8 C hS hm rfl rfl (Nat.le_of_ble_eq_true rfl) dX2_join_2 (fun H locs hS => ?_)
  obtain ⟨σ_1, eσ_1⟩ : ∃ z, z = va_up σ (mo) (some (oO 8 [.int (iI (0)), .int (iI (M.1 1)), .ref (ad 0), .int (iI (M.1 2)), .ref (ad 1), .int (iI (M.1 3)), .ref (ad 2), .ref (ad 3), .int (iI (M.1 4)), .int (iI (M.1 5)), .int (iI (M.1 6)), .ref (ad 4), .ref (ad 5), .int (iI (M.1 7)), .int (iI (M.1 8))])) := ⟨_, rfl⟩
  have hS : tl_S X s σ_1 H locs := by rw [eσ_1]; exact hS
  have he_2 : σ_1 (mo) = some (oO 8 [.int (iI (0)), .int (iI (M.1 1)), .ref (ad 0), .int (iI (M.1 2)), .ref (ad 1), .int (iI (M.1 3)), .ref (ad 2), .ref (ad 3), .int (iI (M.1 4)), .int (iI (M.1 5)), .int (iI (M.1 6)), .ref (ad 4), .ref (ad 5), .int (iI (M.1 7)), .int (iI (M.1 8))]) := by rw [eσ_1]; exact up_s
  have he_3 := up_kp eσ_1 (Ne.symm (tl_neA hm h0)) h0
  have he_4 := up_kp eσ_1 (Ne.symm (tl_neA hm h1)) h1
  have he_5 := up_kp eσ_1 (Ne.symm (tl_neA hm h2)) h2
  have he_6 := up_kp eσ_1 (Ne.symm (tl_neA hm h3)) h3
  have he_7 := up_kp eσ_1 (Ne.symm (tl_neA hm h4)) h4
  have he_8 := up_kp eσ_1 (Ne.symm (tl_neA hm h5)) h5
  have hfr := hfr.up hm mK_o eσ_1
  have hM1 : MD X σ_1 mo ad M1 := by rw [eM1]; exact ⟨he_2, he_3, he_4, he_5, he_6, he_7, he_8, hd⟩
  have hI1 : mI M1 := by rw [eM1]; exact hI.t0 0 (by decide)
  obtain ⟨hm, h0, h1, h2, h3, h4, h5, hd⟩ := id hM1
  obtain ⟨hN, hB, hPt, hJ, hA, hWn⟩ := id hI1
  refine lv_aload_n C.1 C.2.1 dX2_join_5 rfl (lv_at hl 0 rfl) ?_
  refine lv_iload_n C.1 C.2.1 dX2_join_6 rfl (lv_at hl 1 rfl) ?_
  refine tl_ci (t_V (n := 1) (ci := 8) C hml hS (m2_isPart l X σ_1 mo ad M1 hM1 hI1 (pa) (by omega)) q1863 q1865 qs32 q53 q1866 (by decide +kernel) hm rfl rfl hl.1 rfl (Nat.le_of_ble_eq_true rfl) dX2_join_7 ⟨Nat.le_of_ble_eq_true rfl, Nat.le_of_ble_eq_true rfl⟩ ⟨Nat.le_refl _, Nat.le_refl _⟩) hS (fun r_9 σ_11 H locs hP_10 hS => ?_)
  obtain ⟨rfl, rfl⟩ := hP_10
  refine ti_tb_eq (tgt := 30) C.1 C.2.1 dX2_join_10 (by decide) (fun hc_12 => ?_) (fun hc_12 => ?_)
  · skip
    refine lv_aload_n C.1 C.2.1 dX2_join_30 rfl (lv_at hl 0 rfl) ?_
    refine ti_const C.1 C.2.1 dX2_join_31 ?_
    refine tl_ci (t_V (n := 1) (ci := 8) C hml hS (m2_fail l X σ_1 mo ad M1 ⟨hm, h0, h1, h2, h3, h4, h5, hd⟩ (1)) q1785 q1787 qs21 q53 q1788 (by decide +kernel) hm rfl rfl hl.1 rfl (Nat.le_of_ble_eq_true rfl) dX2_join_32 ⟨Nat.le_of_ble_eq_true rfl, Nat.le_of_ble_eq_true rfl⟩ ⟨Nat.le_refl _, Nat.le_refl _⟩) hS (fun r_13 σ_15 H locs hP_14 hS => ?_)
    obtain ⟨rfl, hM_16, hfr9⟩ := hP_14
    have hfr := hfr.trans hfr9
    obtain ⟨hm_17, hm_18, hm_19, hm_20, hm_21, hm_22, hm_23, hd⟩ := id hM_16
    exact r_i C hr hlk hS (by rw [show mJoin M1 pa a pA ln b pB = (0, (mset M1 0 (1))) from by (unfold mJoin; (repeat (first | rw [if_pos (by omega)] | rw [if_neg (by omega)])); try rfl)]; exact ⟨rfl, ⟨hm_17, hm_18, hm_19, hm_20, hm_21, hm_22, hm_23, hd⟩, hfr⟩) dX2_join_35
  · skip
    refine lv_aload_n C.1 C.2.1 dX2_join_13 rfl (lv_at hl 0 rfl) ?_
    refine lv_iload_n C.1 C.2.1 dX2_join_14 rfl (lv_at hl 2 rfl) ?_
    refine tl_ci (t_V (n := 1) (ci := 8) C hml hS (m2_isBoard l X σ_1 mo ad M1 hM1 hI1 (a) (by omega)) q1793 q1795 qs22 q53 q1796 (by decide +kernel) hm rfl rfl hl.1 rfl (Nat.le_of_ble_eq_true rfl) dX2_join_15 ⟨Nat.le_of_ble_eq_true rfl, Nat.le_of_ble_eq_true rfl⟩ ⟨Nat.le_refl _, Nat.le_refl _⟩) hS (fun r_24 σ_26 H locs hP_25 hS => ?_)
    obtain ⟨rfl, rfl⟩ := hP_25
    refine ti_tb_eq (tgt := 30) C.1 C.2.1 dX2_join_18 (by decide) (fun hc_27 => ?_) (fun hc_27 => ?_)
    · skip
      refine lv_aload_n C.1 C.2.1 dX2_join_30 rfl (lv_at hl 0 rfl) ?_
      refine ti_const C.1 C.2.1 dX2_join_31 ?_
      refine tl_ci (t_V (n := 1) (ci := 8) C hml hS (m2_fail l X σ_1 mo ad M1 ⟨hm, h0, h1, h2, h3, h4, h5, hd⟩ (1)) q1785 q1787 qs21 q53 q1788 (by decide +kernel) hm rfl rfl hl.1 rfl (Nat.le_of_ble_eq_true rfl) dX2_join_32 ⟨Nat.le_of_ble_eq_true rfl, Nat.le_of_ble_eq_true rfl⟩ ⟨Nat.le_refl _, Nat.le_refl _⟩) hS (fun r_28 σ_30 H locs hP_29 hS => ?_)
      obtain ⟨rfl, hM_31, hfr9⟩ := hP_29
      have hfr := hfr.trans hfr9
      obtain ⟨hm_32, hm_33, hm_34, hm_35, hm_36, hm_37, hm_38, hd⟩ := id hM_31
      exact r_i C hr hlk hS (by rw [show mJoin M1 pa a pA ln b pB = (0, (mset M1 0 (1))) from by (unfold mJoin; (repeat (first | rw [if_pos (by omega)] | rw [if_neg (by omega)])); try rfl)]; exact ⟨rfl, ⟨hm_32, hm_33, hm_34, hm_35, hm_36, hm_37, hm_38, hd⟩, hfr⟩) dX2_join_35
    · skip
      refine lv_aload_n C.1 C.2.1 dX2_join_21 rfl (lv_at hl 0 rfl) ?_
      refine lv_iload C.1 C.2.1 dX2_join_22 (lv_at hl 5 rfl) ?_
      refine tl_ci (t_V (n := 1) (ci := 8) C hml hS (m2_isBoard l X σ_1 mo ad M1 hM1 hI1 (b) (by omega)) q1793 q1795 qs22 q53 q1796 (by decide +kernel) hm rfl rfl hl.1 rfl (Nat.le_of_ble_eq_true rfl) dX2_join_24 ⟨Nat.le_of_ble_eq_true rfl, Nat.le_of_ble_eq_true rfl⟩ ⟨Nat.le_refl _, Nat.le_refl _⟩) hS (fun r_39 σ_41 H locs hP_40 hS => ?_)
      obtain ⟨rfl, rfl⟩ := hP_40
      refine ti_tb_ne (tgt := 36) C.1 C.2.1 dX2_join_27 (by decide) (fun hc_42 => ?_) (fun hc_42 => ?_)
      · skip
        refine lv_iload C.1 C.2.1 dX2_join_36 (lv_at hl 4 rfl) ?_
        refine ti_bipush C.1 C.2.1 dX2_join_38 (by decide) ?_
        refine ti_icmp_lt (tgt := 62) C.1 C.2.1 dX2_join_40 (by decide) ⟨by omega, by omega⟩ ⟨by decide, by decide⟩ (fun hc_43 => ?_) (fun hc_43 => ?_)
        · skip
          refine lv_aload_n C.1 C.2.1 dX2_join_62 rfl (lv_at hl 0 rfl) ?_
          refine ti_const C.1 C.2.1 dX2_join_63 ?_
          refine tl_ci (t_V (n := 1) (ci := 8) C hml hS (m2_fail l X σ_1 mo ad M1 ⟨hm, h0, h1, h2, h3, h4, h5, hd⟩ (2)) q1785 q1787 qs21 q53 q1788 (by decide +kernel) hm rfl rfl hl.1 rfl (Nat.le_of_ble_eq_true rfl) dX2_join_64 ⟨Nat.le_of_ble_eq_true rfl, Nat.le_of_ble_eq_true rfl⟩ ⟨Nat.le_refl _, Nat.le_refl _⟩) hS (fun r_44 σ_46 H locs hP_45 hS => ?_)
          obtain ⟨rfl, hM_47, hfr9⟩ := hP_45
          have hfr := hfr.trans hfr9
          obtain ⟨hm_48, hm_49, hm_50, hm_51, hm_52, hm_53, hm_54, hd⟩ := id hM_47
          exact r_i C hr hlk hS (by rw [show mJoin M1 pa a pA ln b pB = (0, (mset M1 0 (2))) from by (unfold mJoin; (repeat (first | rw [if_pos (by omega)] | rw [if_neg (by omega)])); try rfl)]; exact ⟨rfl, ⟨hm_48, hm_49, hm_50, hm_51, hm_52, hm_53, hm_54, hd⟩, hfr⟩) dX2_join_67
        · skip
          refine lv_iload C.1 C.2.1 dX2_join_43 (lv_at hl 4 rfl) ?_
          refine lv_aload_n C.1 C.2.1 dX2_join_45 rfl (lv_at hl 0 rfl) ?_
          refine lv_iload_n C.1 C.2.1 dX2_join_46 rfl (lv_at hl 1 rfl) ?_
          refine ti_const C.1 C.2.1 dX2_join_47 ?_
          have hb_55 := hWn ((4 * pa) + 0)
          refine tl_ci (t_V (n := 2) (ci := 8) C hml hS (m2_want l X σ_1 mo ad M1 hM1 hI1 (pa) (0) (by omega)) q1817 q1819 qs28 q53 q1820 (by decide +kernel) hm rfl rfl hl.1 rfl (Nat.le_of_ble_eq_true rfl) dX2_join_48 ⟨Nat.le_of_ble_eq_true rfl, Nat.le_of_ble_eq_true rfl⟩ ⟨Nat.le_refl _, Nat.le_refl _⟩) hS (fun r_56 σ_58 H locs hP_57 hS => ?_)
          obtain ⟨rfl, rfl⟩ := hP_57
          refine lv_aload_n C.1 C.2.1 dX2_join_51 rfl (lv_at hl 0 rfl) ?_
          refine gf_X2_27_8 C hS hm rfl dX2_join_52 ?_
          refine ti_iadd C.1 C.2.1 dX2_join_55 ?_
          refine ti_bipush C.1 C.2.1 dX2_join_56 (by decide) ?_
          refine ti_isub C.1 C.2.1 dX2_join_58 ?_
          refine ti_icmp_le (tgt := 68) C.1 C.2.1 dX2_join_59 (by decide) ⟨by omega, by omega⟩ ⟨by omega, by omega⟩ (fun hc_59 => ?_) (fun hc_59 => ?_)
          · skip
            refine lv_aload_n C.1 C.2.1 dX2_join_68 rfl (lv_at hl 0 rfl) ?_
            refine lv_iload_n C.1 C.2.1 dX2_join_69 rfl (lv_at hl 1 rfl) ?_
            refine ti_const C.1 C.2.1 dX2_join_70 ?_
            have hb_60 := hWn ((4 * pa) + 0)
            refine tl_ci (t_V (n := 2) (ci := 8) C hml hS (m2_want l X σ_1 mo ad M1 hM1 hI1 (pa) (0) (by omega)) q1817 q1819 qs28 q53 q1820 (by decide +kernel) hm rfl rfl hl.1 rfl (Nat.le_of_ble_eq_true rfl) dX2_join_71 ⟨Nat.le_of_ble_eq_true rfl, Nat.le_of_ble_eq_true rfl⟩ ⟨Nat.le_refl _, Nat.le_refl _⟩) hS (fun r_61 σ_63 H locs hP_62 hS => ?_)
            obtain ⟨rfl, rfl⟩ := hP_62
            refine lv_aload_n C.1 C.2.1 dX2_join_74 rfl (lv_at hl 0 rfl) ?_
            refine gf_X2_27_8 C hS hm rfl dX2_join_75 ?_
            refine ti_iadd C.1 C.2.1 dX2_join_78 ?_
            refine lv_iload C.1 C.2.1 dX2_join_79 (lv_at hl 4 rfl) ?_
            refine ti_isub C.1 C.2.1 dX2_join_81 ?_
            refine lv_istore (lv' := [(7, .int (iI ((((M1.2 2 ((4 * pa) + 0)) + M1.1 5) - ln)))), (0, .ref (mo)), (1, .int (iI (pa))), (2, .int (iI (a))), (3, .int (iI (pA))), (4, .int (iI (ln))), (5, .int (iI (b))), (6, .int (iI (pB)))]) C.1 C.2.1 dX2_join_82 hl (by decide) rfl (fun ls hl => ?_)
            refine lv_aload_n C.1 C.2.1 dX2_join_84 rfl (lv_at hl 1 rfl) ?_
            refine lv_iload_n C.1 C.2.1 dX2_join_85 rfl (lv_at hl 2 rfl) ?_
            refine ti_const C.1 C.2.1 dX2_join_86 ?_
            have hb_64 := hWn ((4 * pa) + 3)
            refine tl_ci (t_V (n := 2) (ci := 8) C hml hS (m2_want l X σ_1 mo ad M1 hM1 hI1 (pa) (3) (by omega)) q1817 q1819 qs28 q53 q1820 (by decide +kernel) hm rfl rfl hl.1 rfl (Nat.le_of_ble_eq_true rfl) dX2_join_87 ⟨Nat.le_of_ble_eq_true rfl, Nat.le_of_ble_eq_true rfl⟩ ⟨Nat.le_refl _, Nat.le_refl _⟩) hS (fun r_65 σ_67 H locs hP_66 hS => ?_)
            obtain ⟨rfl, rfl⟩ := hP_66
            refine ti_if_eq (tgt := 137) C.1 C.2.1 dX2_join_90 (by decide) ⟨by omega, by omega⟩ (fun hc_68 => ?_) (fun hc_68 => ?_)
            · skip
              refine lv_aload_n C.1 C.2.1 dX2_join_137 rfl (lv_at hl 1 rfl) ?_
              refine ti_const C.1 C.2.1 dX2_join_138 ?_
              refine tl_ci (t_V (n := 1) (ci := 8) C hml hS (m2_fail l X σ_1 mo ad M1 ⟨hm, h0, h1, h2, h3, h4, h5, hd⟩ (3)) q1785 q1787 qs21 q53 q1788 (by decide +kernel) hm rfl rfl hl.1 rfl (Nat.le_of_ble_eq_true rfl) dX2_join_139 ⟨Nat.le_of_ble_eq_true rfl, Nat.le_of_ble_eq_true rfl⟩ ⟨Nat.le_refl _, Nat.le_refl _⟩) hS (fun r_69 σ_71 H locs hP_70 hS => ?_)
              obtain ⟨rfl, hM_72, hfr9⟩ := hP_70
              have hfr := hfr.trans hfr9
              obtain ⟨hm_73, hm_74, hm_75, hm_76, hm_77, hm_78, hm_79, hd⟩ := id hM_72
              exact r_i C hr hlk hS (by rw [show mJoin M1 pa a pA ln b pB = (0, (mset M1 0 (3))) from by (unfold mJoin; (repeat (first | rw [if_pos (by omega)] | rw [if_neg (by omega)])); try rfl)]; exact ⟨rfl, ⟨hm_73, hm_74, hm_75, hm_76, hm_77, hm_78, hm_79, hd⟩, hfr⟩) dX2_join_142
            · skip
              refine lv_aload_n C.1 C.2.1 dX2_join_93 rfl (lv_at hl 1 rfl) ?_
              refine gf_X2_19_8 C hS hm rfl dX2_join_94 ?_
              refine lv_iload_n C.1 C.2.1 dX2_join_97 rfl (lv_at hl 2 rfl) ?_
              refine h_zaldZ C hS h3 (by omega) (by omega) (by omega) dX2_join_98 ?_
              have hb_80 := hB 3 (pa)
              refine ti_if_eq (tgt := 137) C.1 C.2.1 dX2_join_99 (by decide) ⟨by omega, by omega⟩ (fun hc_81 => ?_) (fun hc_81 => ?_)
              · skip
                refine lv_aload_n C.1 C.2.1 dX2_join_137 rfl (lv_at hl 1 rfl) ?_
                refine ti_const C.1 C.2.1 dX2_join_138 ?_
                refine tl_ci (t_V (n := 1) (ci := 8) C hml hS (m2_fail l X σ_1 mo ad M1 ⟨hm, h0, h1, h2, h3, h4, h5, hd⟩ (3)) q1785 q1787 qs21 q53 q1788 (by decide +kernel) hm rfl rfl hl.1 rfl (Nat.le_of_ble_eq_true rfl) dX2_join_139 ⟨Nat.le_of_ble_eq_true rfl, Nat.le_of_ble_eq_true rfl⟩ ⟨Nat.le_refl _, Nat.le_refl _⟩) hS (fun r_82 σ_84 H locs hP_83 hS => ?_)
                obtain ⟨rfl, hM_85, hfr9⟩ := hP_83
                have hfr := hfr.trans hfr9
                obtain ⟨hm_86, hm_87, hm_88, hm_89, hm_90, hm_91, hm_92, hd⟩ := id hM_85
                exact r_i C hr hlk hS (by rw [show mJoin M1 pa a pA ln b pB = (0, (mset M1 0 (3))) from by (unfold mJoin; (repeat (first | rw [if_pos (by omega)] | rw [if_neg (by omega)])); try rfl)]; exact ⟨rfl, ⟨hm_86, hm_87, hm_88, hm_89, hm_90, hm_91, hm_92, hd⟩, hfr⟩) dX2_join_142
              · skip
                refine lv_iload_n C.1 C.2.1 dX2_join_102 rfl (lv_at hl 4 rfl) ?_
                refine ti_const C.1 C.2.1 dX2_join_103 ?_
                refine ti_sipush C.1 C.2.1 dX2_join_104 (by decide) ?_
                refine tl_ci (t_S (n := 3) C hml hS (m2_isIn l X σ_1 (pA) (0) (3000) (by omega)) q1782 q1783 q53 q1784 (by decide +kernel) rfl hl.1 rfl (Nat.le_of_ble_eq_true rfl) dX2_join_107 ⟨Nat.le_of_ble_eq_true rfl, Nat.le_of_ble_eq_true rfl⟩ ⟨Nat.le_refl _, Nat.le_refl _⟩) hS (fun r_93 σ_95 H locs hP_94 hS => ?_)
                obtain ⟨rfl, rfl⟩ := hP_94
                refine ti_tb_eq (tgt := 137) C.1 C.2.1 dX2_join_110 (by decide) (fun hc_96 => ?_) (fun hc_96 => ?_)
                · skip
                  refine lv_aload_n C.1 C.2.1 dX2_join_137 rfl (lv_at hl 1 rfl) ?_
                  refine ti_const C.1 C.2.1 dX2_join_138 ?_
                  refine tl_ci (t_V (n := 1) (ci := 8) C hml hS (m2_fail l X σ_1 mo ad M1 ⟨hm, h0, h1, h2, h3, h4, h5, hd⟩ (3)) q1785 q1787 qs21 q53 q1788 (by decide +kernel) hm rfl rfl hl.1 rfl (Nat.le_of_ble_eq_true rfl) dX2_join_139 ⟨Nat.le_of_ble_eq_true rfl, Nat.le_of_ble_eq_true rfl⟩ ⟨Nat.le_refl _, Nat.le_refl _⟩) hS (fun r_97 σ_99 H locs hP_98 hS => ?_)
                  obtain ⟨rfl, hM_100, hfr9⟩ := hP_98
                  have hfr := hfr.trans hfr9
                  obtain ⟨hm_101, hm_102, hm_103, hm_104, hm_105, hm_106, hm_107, hd⟩ := id hM_100
                  exact r_i C hr hlk hS (by rw [show mJoin M1 pa a pA ln b pB = (0, (mset M1 0 (3))) from by (unfold mJoin; (repeat (first | rw [if_pos (by omega)] | rw [if_neg (by omega)])); try rfl)]; exact ⟨rfl, ⟨hm_101, hm_102, hm_103, hm_104, hm_105, hm_106, hm_107, hd⟩, hfr⟩) dX2_join_142
                · skip
                  refine lv_iload C.1 C.2.1 dX2_join_113 (lv_at hl 7 rfl) ?_
                  refine ti_const C.1 C.2.1 dX2_join_115 ?_
                  refine ti_sipush C.1 C.2.1 dX2_join_116 (by decide) ?_
                  refine tl_ci (t_S (n := 3) C hml hS (m2_isIn l X σ_1 (pB) (0) (3000) (by omega)) q1782 q1783 q53 q1784 (by decide +kernel) rfl hl.1 rfl (Nat.le_of_ble_eq_true rfl) dX2_join_119 ⟨Nat.le_of_ble_eq_true rfl, Nat.le_of_ble_eq_true rfl⟩ ⟨Nat.le_refl _, Nat.le_refl _⟩) hS (fun r_108 σ_110 H locs hP_109 hS => ?_)
                  obtain ⟨rfl, rfl⟩ := hP_109
                  refine ti_tb_eq (tgt := 137) C.1 C.2.1 dX2_join_122 (by decide) (fun hc_111 => ?_) (fun hc_111 => ?_)
                  · skip
                    refine lv_aload_n C.1 C.2.1 dX2_join_137 rfl (lv_at hl 1 rfl) ?_
                    refine ti_const C.1 C.2.1 dX2_join_138 ?_
                    refine tl_ci (t_V (n := 1) (ci := 8) C hml hS (m2_fail l X σ_1 mo ad M1 ⟨hm, h0, h1, h2, h3, h4, h5, hd⟩ (3)) q1785 q1787 qs21 q53 q1788 (by decide +kernel) hm rfl rfl hl.1 rfl (Nat.le_of_ble_eq_true rfl) dX2_join_139 ⟨Nat.le_of_ble_eq_true rfl, Nat.le_of_ble_eq_true rfl⟩ ⟨Nat.le_refl _, Nat.le_refl _⟩) hS (fun r_112 σ_114 H locs hP_113 hS => ?_)
                    obtain ⟨rfl, hM_115, hfr9⟩ := hP_113
                    have hfr := hfr.trans hfr9
                    obtain ⟨hm_116, hm_117, hm_118, hm_119, hm_120, hm_121, hm_122, hd⟩ := id hM_115
                    exact r_i C hr hlk hS (by rw [show mJoin M1 pa a pA ln b pB = (0, (mset M1 0 (3))) from by (unfold mJoin; (repeat (first | rw [if_pos (by omega)] | rw [if_neg (by omega)])); try rfl)]; exact ⟨rfl, ⟨hm_116, hm_117, hm_118, hm_119, hm_120, hm_121, hm_122, hd⟩, hfr⟩) dX2_join_142
                  · skip
                    refine lv_aload_n C.1 C.2.1 dX2_join_125 rfl (lv_at hl 1 rfl) ?_
                    refine lv_iload_n C.1 C.2.1 dX2_join_126 rfl (lv_at hl 2 rfl) ?_
                    refine lv_iload C.1 C.2.1 dX2_join_127 (lv_at hl 5 rfl) ?_
                    refine lv_iload_n C.1 C.2.1 dX2_join_129 rfl (lv_at hl 3 rfl) ?_
                    refine lv_iload_n C.1 C.2.1 dX2_join_130 rfl (lv_at hl 4 rfl) ?_
                    refine tl_ci (t_V (n := 4) (ci := 8) C hml hS (m2_isPossible l X σ_1 mo ad M1 hM1 hI1 (pa) (ln) (a) (pA) (by omega)) q1867 q1869 qs33 q53 q1870 (by decide +kernel) hm rfl rfl hl.1 rfl (Nat.le_of_ble_eq_true rfl) dX2_join_131 ⟨Nat.le_of_ble_eq_true rfl, Nat.le_of_ble_eq_true rfl⟩ ⟨Nat.le_refl _, Nat.le_refl _⟩) hS (fun r_123 σ_125 H locs hP_124 hS => ?_)
                    obtain ⟨rfl, rfl⟩ := hP_124
                    refine ti_tb_ne (tgt := 143) C.1 C.2.1 dX2_join_134 (by decide) (fun hc_126 => ?_) (fun hc_126 => ?_)
                    · skip
                      have h66 : M1.1 6 ≤ 214 := by rw [eM1]; exact h6 pa (by omega) (by rw [eM1] at *; exact (by omega : pa < (mset M 0 0).1 3)) (by rw [eM1] at *; assumption)
                      refine lv_aload_n C.1 C.2.1 dX2_join_143 rfl (lv_at hl 1 rfl) ?_
                      refine lv_iload_n C.1 C.2.1 dX2_join_144 rfl (lv_at hl 2 rfl) ?_
                      refine lv_iload_n C.1 C.2.1 dX2_join_145 rfl (lv_at hl 3 rfl) ?_
                      refine lv_iload_n C.1 C.2.1 dX2_join_146 rfl (lv_at hl 4 rfl) ?_
                      refine lv_iload C.1 C.2.1 dX2_join_147 (lv_at hl 5 rfl) ?_
                      refine ti_const C.1 C.2.1 dX2_join_149 ?_
                      refine tl_cv (t_V (n := 5) (ci := 8) C hml hS (m2_add l X σ_1 mo ad M1 ⟨hm, h0, h1, h2, h3, h4, h5, hd⟩ (pa) (a) (pA) (ln) (1) (by show 0 ≤ M1.1 6 ∧ M1.1 6 < 216; omega) (by omega)) q1891 q1893 qs37 q53 q1894 (by decide +kernel) hm rfl rfl hl.1 rfl (Nat.le_of_ble_eq_true rfl) dX2_join_150 ⟨Nat.le_of_ble_eq_true rfl, Nat.le_of_ble_eq_true rfl⟩ ⟨Nat.le_refl _, Nat.le_refl _⟩) hS (fun σ_129 H locs hP_128 hS => ?_)
                      obtain ⟨hM_130, hfr9⟩ := hP_128
                      have hfr := hfr.trans hfr9
                      obtain ⟨hm_131, hm_132, hm_133, hm_134, hm_135, hm_136, hm_137, hd⟩ := id hM_130
                      refine lv_aload_n C.1 C.2.1 dX2_join_153 rfl (lv_at hl 1 rfl) ?_
                      refine lv_iload_n C.1 C.2.1 dX2_join_154 rfl (lv_at hl 2 rfl) ?_
                      refine lv_iload C.1 C.2.1 dX2_join_155 (lv_at hl 0 rfl) ?_
                      refine lv_iload C.1 C.2.1 dX2_join_157 (lv_at hl 6 rfl) ?_
                      refine lv_iload C.1 C.2.1 dX2_join_159 (lv_at hl 7 rfl) ?_
                      have hI2 : mI (mAdd M1 (pa) (a) (pA) (ln) (1)) := hI1.add (by omega) (by omega) (by omega) (by omega) (by omega) (by omega)
                      refine tl_ci (t_V (n := 4) (ci := 8) C hml hS (m2_isPossible l X σ_129 mo ad (mAdd M1 (pa) (a) (pA) (ln) (1)) hM_130 hI2 (pa) ((((M1.2 2 ((4 * pa) + 0)) + M1.1 5) - ln)) (b) (pB) (by omega)) q1867 q1869 qs33 q53 q1870 (by decide +kernel) hm_131 rfl rfl hl.1 rfl (Nat.le_of_ble_eq_true rfl) dX2_join_161 ⟨Nat.le_of_ble_eq_true rfl, Nat.le_of_ble_eq_true rfl⟩ ⟨Nat.le_refl _, Nat.le_refl _⟩) hS (fun r_138 σ_140 H locs hP_139 hS => ?_)
                      obtain ⟨rfl, rfl⟩ := hP_139
                      refine ti_tb_ne (tgt := 183) C.1 C.2.1 dX2_join_164 (by decide) (fun hc_141 => ?_) (fun hc_141 => ?_)
                      · skip
                        refine lv_aload_n C.1 C.2.1 dX2_join_183 rfl (lv_at hl 1 rfl) ?_
                        refine lv_iload_n C.1 C.2.1 dX2_join_184 rfl (lv_at hl 2 rfl) ?_
                        refine lv_iload C.1 C.2.1 dX2_join_185 (lv_at hl 6 rfl) ?_
                        refine lv_iload C.1 C.2.1 dX2_join_187 (lv_at hl 7 rfl) ?_
                        refine lv_iload C.1 C.2.1 dX2_join_189 (lv_at hl 0 rfl) ?_
                        refine ti_const C.1 C.2.1 dX2_join_191 ?_
                        refine tl_cv (t_V (n := 5) (ci := 8) C hml hS (m2_add l X σ_129 mo ad (mAdd M1 (pa) (a) (pA) (ln) (1)) ⟨hm_131, hm_132, hm_133, hm_134, hm_135, hm_136, hm_137, hd⟩ (pa) (b) (pB) ((((M1.2 2 ((4 * pa) + 0)) + M1.1 5) - ln)) (1) (by show 0 ≤ M1.1 6 + 1 ∧ M1.1 6 + 1 < 216; omega) (by omega)) q1891 q1893 qs37 q53 q1894 (by decide +kernel) hm_131 rfl rfl hl.1 rfl (Nat.le_of_ble_eq_true rfl) dX2_join_192 ⟨Nat.le_of_ble_eq_true rfl, Nat.le_of_ble_eq_true rfl⟩ ⟨Nat.le_refl _, Nat.le_refl _⟩) hS (fun σ_144 H locs hP_143 hS => ?_)
                        obtain ⟨hM_145, hfr9⟩ := hP_143
                        have hfr := hfr.trans hfr9
                        obtain ⟨hm_146, hm_147, hm_148, hm_149, hm_150, hm_151, hm_152, hd⟩ := id hM_145
                        refine lv_aload_n C.1 C.2.1 dX2_join_195 rfl (lv_at hl 1 rfl) ?_
                        refine lv_iload_n C.1 C.2.1 dX2_join_196 rfl (lv_at hl 2 rfl) ?_
                        refine tl_ci (t_V (n := 1) (ci := 8) C hml hS (m2_lessLeft l X σ_144 mo ad (mAdd (mAdd M1 (pa) (a) (pA) (ln) (1)) (pa) (b) (pB) ((((M1.2 2 ((4 * pa) + 0)) + M1.1 5) - ln)) (1)) ⟨hm_146, hm_147, hm_148, hm_149, hm_150, hm_151, hm_152, hd⟩ (pa) (by omega)) q1895 q1897 qs38 q53 q1898 (by decide +kernel) hm_146 rfl rfl hl.1 rfl (Nat.le_of_ble_eq_true rfl) dX2_join_197 ⟨Nat.le_of_ble_eq_true rfl, Nat.le_of_ble_eq_true rfl⟩ ⟨Nat.le_refl _, Nat.le_refl _⟩) hS (fun r_153 σ_155 H locs hP_154 hS => ?_)
                        obtain ⟨rfl, hM_156, hfr9⟩ := hP_154
                        have hfr := hfr.trans hfr9
                        obtain ⟨hm_157, hm_158, hm_159, hm_160, hm_161, hm_162, hm_163, hd⟩ := id hM_156
                        exact r_i C hr hlk hS (by rw [show mJoin M1 pa a pA ln b pB = (((mAdd (mAdd M1 (pa) (a) (pA) (ln) (1)) (pa) (b) (pB) ((((M1.2 2 ((4 * pa) + 0)) + M1.1 5) - ln)) (1)).2 2 (4 * pa + 3) - 1), (mLess (mAdd (mAdd M1 (pa) (a) (pA) (ln) (1)) (pa) (b) (pB) ((((M1.2 2 ((4 * pa) + 0)) + M1.1 5) - ln)) (1)) (pa))) from by (unfold mJoin; (repeat (first | rw [if_pos (by omega)] | rw [if_neg (by omega)])); try rfl)]; exact ⟨rfl, ⟨hm_157, hm_158, hm_159, hm_160, hm_161, hm_162, hm_163, hd⟩, hfr⟩) dX2_join_200
                      · skip
                        refine lv_aload_n C.1 C.2.1 dX2_join_167 rfl (lv_at hl 1 rfl) ?_
                        refine lv_dup C.1 C.2.1 dX2_join_168 rfl ?_
                        refine gf_X2_63_8 C hS hm_131 rfl dX2_join_169 ?_
                        refine ti_const C.1 C.2.1 dX2_join_172 ?_
                        refine ti_isub C.1 C.2.1 dX2_join_173 ?_
                        refine gp_X2_63_8 C hS hm_131 rfl rfl (Nat.le_of_ble_eq_true rfl) dX2_join_174 (fun H locs hS => ?_)
                        obtain ⟨σ_164, eσ_164⟩ : ∃ z, z = va_up σ_129 (mo) (some (oO 8 [.int (iI ((mAdd M1 (pa) (a) (pA) (ln) (1)).1 0)), .int (iI ((mAdd M1 (pa) (a) (pA) (ln) (1)).1 1)), .ref (ad 0), .int (iI ((mAdd M1 (pa) (a) (pA) (ln) (1)).1 2)), .ref (ad 1), .int (iI ((mAdd M1 (pa) (a) (pA) (ln) (1)).1 3)), .ref (ad 2), .ref (ad 3), .int (iI ((mAdd M1 (pa) (a) (pA) (ln) (1)).1 4)), .int (iI ((mAdd M1 (pa) (a) (pA) (ln) (1)).1 5)), .int (iI (((mAdd M1 (pa) (a) (pA) (ln) (1)).1 6 - 1))), .ref (ad 4), .ref (ad 5), .int (iI ((mAdd M1 (pa) (a) (pA) (ln) (1)).1 7)), .int (iI ((mAdd M1 (pa) (a) (pA) (ln) (1)).1 8))])) := ⟨_, rfl⟩
                        have hS : tl_S X s σ_164 H locs := by rw [eσ_164]; exact hS
                        have he_165 : σ_164 (mo) = some (oO 8 [.int (iI ((mAdd M1 (pa) (a) (pA) (ln) (1)).1 0)), .int (iI ((mAdd M1 (pa) (a) (pA) (ln) (1)).1 1)), .ref (ad 0), .int (iI ((mAdd M1 (pa) (a) (pA) (ln) (1)).1 2)), .ref (ad 1), .int (iI ((mAdd M1 (pa) (a) (pA) (ln) (1)).1 3)), .ref (ad 2), .ref (ad 3), .int (iI ((mAdd M1 (pa) (a) (pA) (ln) (1)).1 4)), .int (iI ((mAdd M1 (pa) (a) (pA) (ln) (1)).1 5)), .int (iI (((mAdd M1 (pa) (a) (pA) (ln) (1)).1 6 - 1))), .ref (ad 4), .ref (ad 5), .int (iI ((mAdd M1 (pa) (a) (pA) (ln) (1)).1 7)), .int (iI ((mAdd M1 (pa) (a) (pA) (ln) (1)).1 8))]) := by rw [eσ_164]; exact up_s
                        have he_166 := up_kp eσ_164 (Ne.symm (tl_neA hm_131 hm_132)) hm_132
                        have he_167 := up_kp eσ_164 (Ne.symm (tl_neA hm_131 hm_133)) hm_133
                        have he_168 := up_kp eσ_164 (Ne.symm (tl_neA hm_131 hm_134)) hm_134
                        have he_169 := up_kp eσ_164 (Ne.symm (tl_neA hm_131 hm_135)) hm_135
                        have he_170 := up_kp eσ_164 (Ne.symm (tl_neA hm_131 hm_136)) hm_136
                        have he_171 := up_kp eσ_164 (Ne.symm (tl_neA hm_131 hm_137)) hm_137
                        have hfr := hfr.up hm_131 mK_o eσ_164
                        refine lv_aload_n C.1 C.2.1 dX2_join_177 rfl (lv_at hl 1 rfl) ?_
                        refine ti_const C.1 C.2.1 dX2_join_178 ?_
                        refine tl_ci (t_V (n := 1) (ci := 8) C hml hS (m2_fail l X σ_164 mo ad (mset (mAdd M1 (pa) (a) (pA) (ln) (1)) 6 (((mAdd M1 (pa) (a) (pA) (ln) (1)).1 6 - 1))) ⟨he_165, he_166, he_167, he_168, he_169, he_170, he_171, hd⟩ (3)) q1785 q1787 qs21 q53 q1788 (by decide +kernel) he_165 rfl rfl hl.1 rfl (Nat.le_of_ble_eq_true rfl) dX2_join_179 ⟨Nat.le_of_ble_eq_true rfl, Nat.le_of_ble_eq_true rfl⟩ ⟨Nat.le_refl _, Nat.le_refl _⟩) hS (fun r_172 σ_174 H locs hP_173 hS => ?_)
                        obtain ⟨rfl, hM_175, hfr9⟩ := hP_173
                        have hfr := hfr.trans hfr9
                        obtain ⟨hm_176, hm_177, hm_178, hm_179, hm_180, hm_181, hm_182, hd⟩ := id hM_175
                        exact r_i C hr hlk hS (by rw [show mJoin M1 pa a pA ln b pB = (0, (mset (mset (mAdd M1 (pa) (a) (pA) (ln) (1)) 6 (((mAdd M1 (pa) (a) (pA) (ln) (1)).1 6 - 1))) 0 (3))) from by (unfold mJoin; (repeat (first | rw [if_pos (by omega)] | rw [if_neg (by omega)])); try rfl)]; exact ⟨rfl, ⟨hm_176, hm_177, hm_178, hm_179, hm_180, hm_181, hm_182, hd⟩, hfr⟩) dX2_join_182
                    · skip
                      refine lv_aload_n C.1 C.2.1 dX2_join_137 rfl (lv_at hl 1 rfl) ?_
                      refine ti_const C.1 C.2.1 dX2_join_138 ?_
                      refine tl_ci (t_V (n := 1) (ci := 8) C hml hS (m2_fail l X σ_1 mo ad M1 ⟨hm, h0, h1, h2, h3, h4, h5, hd⟩ (3)) q1785 q1787 qs21 q53 q1788 (by decide +kernel) hm rfl rfl hl.1 rfl (Nat.le_of_ble_eq_true rfl) dX2_join_139 ⟨Nat.le_of_ble_eq_true rfl, Nat.le_of_ble_eq_true rfl⟩ ⟨Nat.le_refl _, Nat.le_refl _⟩) hS (fun r_183 σ_185 H locs hP_184 hS => ?_)
                      obtain ⟨rfl, hM_186, hfr9⟩ := hP_184
                      have hfr := hfr.trans hfr9
                      obtain ⟨hm_187, hm_188, hm_189, hm_190, hm_191, hm_192, hm_193, hd⟩ := id hM_186
                      exact r_i C hr hlk hS (by rw [show mJoin M1 pa a pA ln b pB = (0, (mset M1 0 (3))) from by (unfold mJoin; (repeat (first | rw [if_pos (by omega)] | rw [if_neg (by omega)])); try rfl)]; exact ⟨rfl, ⟨hm_187, hm_188, hm_189, hm_190, hm_191, hm_192, hm_193, hd⟩, hfr⟩) dX2_join_142
          · skip
            refine lv_aload_n C.1 C.2.1 dX2_join_62 rfl (lv_at hl 0 rfl) ?_
            refine ti_const C.1 C.2.1 dX2_join_63 ?_
            refine tl_ci (t_V (n := 1) (ci := 8) C hml hS (m2_fail l X σ_1 mo ad M1 ⟨hm, h0, h1, h2, h3, h4, h5, hd⟩ (2)) q1785 q1787 qs21 q53 q1788 (by decide +kernel) hm rfl rfl hl.1 rfl (Nat.le_of_ble_eq_true rfl) dX2_join_64 ⟨Nat.le_of_ble_eq_true rfl, Nat.le_of_ble_eq_true rfl⟩ ⟨Nat.le_refl _, Nat.le_refl _⟩) hS (fun r_194 σ_196 H locs hP_195 hS => ?_)
            obtain ⟨rfl, hM_197, hfr9⟩ := hP_195
            have hfr := hfr.trans hfr9
            obtain ⟨hm_198, hm_199, hm_200, hm_201, hm_202, hm_203, hm_204, hd⟩ := id hM_197
            exact r_i C hr hlk hS (by rw [show mJoin M1 pa a pA ln b pB = (0, (mset M1 0 (2))) from by (unfold mJoin; (repeat (first | rw [if_pos (by omega)] | rw [if_neg (by omega)])); try rfl)]; exact ⟨rfl, ⟨hm_198, hm_199, hm_200, hm_201, hm_202, hm_203, hm_204, hd⟩, hfr⟩) dX2_join_67
      · skip
        refine lv_aload_n C.1 C.2.1 dX2_join_30 rfl (lv_at hl 0 rfl) ?_
        refine ti_const C.1 C.2.1 dX2_join_31 ?_
        refine tl_ci (t_V (n := 1) (ci := 8) C hml hS (m2_fail l X σ_1 mo ad M1 ⟨hm, h0, h1, h2, h3, h4, h5, hd⟩ (1)) q1785 q1787 qs21 q53 q1788 (by decide +kernel) hm rfl rfl hl.1 rfl (Nat.le_of_ble_eq_true rfl) dX2_join_32 ⟨Nat.le_of_ble_eq_true rfl, Nat.le_of_ble_eq_true rfl⟩ ⟨Nat.le_refl _, Nat.le_refl _⟩) hS (fun r_205 σ_207 H locs hP_206 hS => ?_)
        obtain ⟨rfl, hM_208, hfr9⟩ := hP_206
        have hfr := hfr.trans hfr9
        obtain ⟨hm_209, hm_210, hm_211, hm_212, hm_213, hm_214, hm_215, hd⟩ := id hM_208
        exact r_i C hr hlk hS (by rw [show mJoin M1 pa a pA ln b pB = (0, (mset M1 0 (1))) from by (unfold mJoin; (repeat (first | rw [if_pos (by omega)] | rw [if_neg (by omega)])); try rfl)]; exact ⟨rfl, ⟨hm_209, hm_210, hm_211, hm_212, hm_213, hm_214, hm_215, hd⟩, hfr⟩) dX2_join_35

