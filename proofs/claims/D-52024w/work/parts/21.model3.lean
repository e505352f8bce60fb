/-! THE MODEL: STRETCHES, THE PLAN (printed by gen_model3.py) -/
set_option maxRecDepth 100000
theorem gp_X2_100_8 {p : Program} {l : Launch} {e : Env} {R : Room} {s : State} {m : MethodId} {args : Array Value} {below : List Frame} {meth : Method} {c : Code} {H : Heap} {locs : List Loc} {cells slots : Nat} {Q : State → Prop} {cc : ByteArray} {pc : Nat} {ls : Array Slot} {rest : List Value} {X : tl_X} {σ : tl_H} {a : Nat} {fs : List Value} {v : Value} (C : tl_C X p s m args c cc RX2) (hS : tl_S X s σ H locs) (he : σ a = some (oO 8 fs)) (hn : narrow (tyX2 14) v = v) (hfit : fits (tyX2 14) v = true) (hl : 14 < fs.length) (hdg : decode cc pc = .ok (.putfield 100, 3)) (kk : ∀ (H1 : Heap) (locs1 : List Loc), tl_S X s (va_up σ a (some (oO 8 (fs.set 14 v)))) H1 locs1 → W p l e R s m args below meth c H1 locs1 cells slots Q (F0 m (pc + 3) ls rest)) : W p l e R s m args below meth c H locs cells slots Q (F0 m pc ls (v :: .ref a :: rest)) :=
  h_put (ref := "TimberListModel") C hS in_X2 tyX2 tyX2_ok nmX2 rfl 14 (by decide) q1741 (fun _ h => h) rfl (by decide) he hn hfit hl hdg kk
theorem gp_X2_94_8 {p : Program} {l : Launch} {e : Env} {R : Room} {s : State} {m : MethodId} {args : Array Value} {below : List Frame} {meth : Method} {c : Code} {H : Heap} {locs : List Loc} {cells slots : Nat} {Q : State → Prop} {cc : ByteArray} {pc : Nat} {ls : Array Slot} {rest : List Value} {X : tl_X} {σ : tl_H} {a : Nat} {fs : List Value} {v : Value} (C : tl_C X p s m args c cc RX2) (hS : tl_S X s σ H locs) (he : σ a = some (oO 8 fs)) (hn : narrow (tyX2 13) v = v) (hfit : fits (tyX2 13) v = true) (hl : 13 < fs.length) (hdg : decode cc pc = .ok (.putfield 94, 3)) (kk : ∀ (H1 : Heap) (locs1 : List Loc), tl_S X s (va_up σ a (some (oO 8 (fs.set 13 v)))) H1 locs1 → W p l e R s m args below meth c H1 locs1 cells slots Q (F0 m (pc + 3) ls rest)) : W p l e R s m args below meth c H locs cells slots Q (F0 m pc ls (v :: .ref a :: rest)) :=
  h_put (ref := "TimberListModel") C hS in_X2 tyX2 tyX2_ok nmX2 rfl 13 (by decide) q1740 (fun _ h => h) rfl (by decide) he hn hfit hl hdg kk
set_option maxHeartbeats 4000000 in
theorem m2_goOver (l : Launch) (X : tl_X) (σ : tl_H) (mo : Nat) (ad : Nat → Nat) (M : mS) (hM : MD X σ mo ad M) (hI : mI M) (b g wn : Int) (hr : 0 ≤ b ∧ b < 10 ∧ -2147483648 ≤ g ∧ g ≤ 2147483647 ∧ -2147483648 ≤ wn ∧ wn ≤ 2147483647) : tl_Met l X yX2_goOver cX2_goOver 8 ((Option.some FieldType.int)) 3 (0) (0) [.ref (mo), .int (iI (b)), .int (iI (g)), .int (iI (wn))] σ (tl_Qi X (fun r σ' => r = iI (mGoR M b g wn).1 ∧ MD X σ' mo ad (mset (mset M 7 (mGoR M b g wn).2.1) 8 (mGoR M b g wn).2.2) ∧ mFr σ σ')) := by
  refine tl_start (by decide) (Nat.le_of_ble_eq_true rfl) (fun p e s m below meth c ls C hr hml hlk hnm hS hl => ?_)
  have hl : lv_has ls 8 [(0, .ref (mo)), (1, .int (iI (b))), (2, .int (iI (g))), (3, .int (iI (wn)))] := hl
  obtain ⟨hm, h0, h1, h2, h3, h4, h5, hd⟩ := id hM
  obtain ⟨hN, hB, hPt, hJ, hA, hWn⟩ := id hI
  have hfr : mFr σ σ := mFr.rf
  have hgr : ∀ sf stt pl, mGradeAt (mset (mset M 7 sf) 8 stt) b pl = mGradeAt M b pl := fun _ _ _ => rfl
  have hnx : ∀ sf stt pl, mNext (mset (mset M 7 sf) 8 stt) b pl = mNext M b pl := fun _ _ _ => rfl
  have hln : ∀ sf stt z, (mset (mset M 7 sf) 8 stt).2 0 z = M.2 0 z := fun _ _ _ => rfl
  refine ti_const C.1 C.2.1 dX2_goOver_0 ?_
  refine lv_istore (lv' := [(4, .int (iI (0))), (0, .ref (mo)), (1, .int (iI (b))), (2, .int (iI (g))), (3, .int (iI (wn)))]) C.1 C.2.1 dX2_goOver_1 hl (by decide) rfl (fun ls hl => ?_)
  refine ti_const C.1 C.2.1 dX2_goOver_3 ?_
  refine lv_istore (lv' := [(5, .int (iI (0))), (4, .int (iI (0))), (0, .ref (mo)), (1, .int (iI (b))), (2, .int (iI (g))), (3, .int (iI (wn)))]) C.1 C.2.1 dX2_goOver_4 hl (by decide) rfl (fun ls hl => ?_)
  refine ti_const C.1 C.2.1 dX2_goOver_6 ?_
  refine lv_istore (lv' := [(6, .int (iI (0))), (5, .int (iI (0))), (4, .int (iI (0))), (0, .ref (mo)), (1, .int (iI (b))), (2, .int (iI (g))), (3, .int (iI (wn)))]) C.1 C.2.1 dX2_goOver_7 hl (by decide) rfl (fun ls hl => ?_)
  have loop_1 : ∀ (n_2 : Nat) (many : Int) (was : Int) (pl : Int) (sf : Int) (stt : Int), (0 ≤ pl ∧ pl ≤ 9000 ∧ 0 ≤ many ∧ many ≤ pl ∧ (was = 0 ∨ was = 1) ∧ -20000 ≤ sf ∧ sf ≤ 20000 ∧ -20000 ≤ stt ∧ stt ≤ 20000) ∧ mGo M b g wn n_2 many was pl sf stt = mGoR M b g wn → 20000 - pl < (n_2 : Int) → ∀ (σc : tl_H) (hMc : MD X σc mo ad (mset (mset M 7 sf) 8 stt)) (hfc : mFr σ σc) (H : Heap) (locs : List Loc) (ls : Array Slot), tl_S X s σc H locs → lv_has ls 8 [(6, .int (iI (pl))), (5, .int (iI (was))), (4, .int (iI (many))), (0, .ref (mo)), (1, .int (iI (b))), (2, .int (iI (g))), (3, .int (iI (wn)))] → W p l e (tl_rm 3 (0) (0)) s m ([.ref (mo), .int (iI (b)), .int (iI (g)), .int (iI (wn))] : List Value).toArray below meth c H locs (0) (0) (MQ below (tl_Qi X (fun r σ' => r = iI (mGoR M b g wn).1 ∧ MD X σ' mo ad (mset (mset M 7 (mGoR M b g wn).2.1) 8 (mGoR M b g wn).2.2) ∧ mFr σ σ')) ([.ref (mo), .int (iI (b)), .int (iI (g)), .int (iI (wn))] : List Value).toArray s (0) (0) (tl_A X)) (F0 m 9 ls []) := by
    intro n_2
    induction n_2 with
    | zero => intro many was pl sf stt hinv hms; omega
    | succ n_2 ih_3 =>
      intro many was pl sf stt hinv hms_4 σc hMc hfc H locs ls hS hl
      obtain ⟨hv, hR⟩ := hinv
      have hIc : mI (mset (mset M 7 sf) 8 stt) := hI.s78 (by omega) (by omega)
      obtain ⟨hm, h0, h1, h2, h3, h4, h5, hd⟩ := id hMc
      have hm : σc mo = some (oO 8 [.int (iI (M.1 0)), .int (iI (M.1 1)), .ref (ad 0), .int (iI (M.1 2)), .ref (ad 1), .int (iI (M.1 3)), .ref (ad 2), .ref (ad 3), .int (iI (M.1 4)), .int (iI (M.1 5)), .int (iI (M.1 6)), .ref (ad 4), .ref (ad 5), .int (iI (sf)), .int (iI (stt))]) := hm
      have hfr := hfc
      refine lv_iload C.1 C.2.1 dX2_goOver_9 (lv_at hl 0 rfl) ?_
      refine lv_aload_n C.1 C.2.1 dX2_goOver_11 rfl (lv_at hl 3 rfl) ?_
      refine lv_iload_n C.1 C.2.1 dX2_goOver_12 rfl (lv_at hl 4 rfl) ?_
      have hbl := hB 0 (3 * b)
      refine tl_ci (t_V (n := 1) (ci := 8) C hml hS (m2_length l X σc mo ad (mset (mset M 7 sf) 8 stt) hMc hIc (b) (by omega)) q1797 q1799 qs23 q53 q1800 (by decide +kernel) hm rfl rfl hl.1 rfl (Nat.le_of_ble_eq_true rfl) dX2_goOver_13 ⟨Nat.le_of_ble_eq_true rfl, Nat.le_of_ble_eq_true rfl⟩ ⟨Nat.le_refl _, Nat.le_refl _⟩) hS (fun r_5 σ_7 H locs hP_6 hS => ?_)
      obtain ⟨rfl, rfl⟩ := hP_6
      rw [hln]
      refine ti_icmp_ge (tgt := 97) C.1 C.2.1 dX2_goOver_16 (by decide) ⟨by omega, by omega⟩ ⟨by omega, by omega⟩ (fun hc_8 => ?_) (fun hc_8 => ?_)
      · skip
        refine lv_iload C.1 C.2.1 dX2_goOver_97 (lv_at hl 2 rfl) ?_
        exact r_i C hr hlk hS (by rw [show mGoR M b g wn = (many, sf, stt) from by (rw [← hR]; show (if _ then _ else _) = _; (repeat (first | rw [if_pos (by omega)] | rw [if_neg (by omega)])))]; exact ⟨rfl, ⟨hm, h0, h1, h2, h3, h4, h5, hd⟩, hfr⟩) dX2_goOver_99
      · skip
        refine lv_aload_n C.1 C.2.1 dX2_goOver_19 rfl (lv_at hl 3 rfl) ?_
        refine lv_iload_n C.1 C.2.1 dX2_goOver_20 rfl (lv_at hl 4 rfl) ?_
        refine lv_iload C.1 C.2.1 dX2_goOver_21 (lv_at hl 0 rfl) ?_
        have hbg := mGradeAt_bd hI b pl
        refine tl_ci (t_V (n := 2) (ci := 8) C hml hS (m2_gradeAt l X σc mo ad (mset (mset M 7 sf) 8 stt) hMc hIc (b) (pl) (by omega)) q1837 q1839 qs29 q53 q1840 (by decide +kernel) hm rfl rfl hl.1 rfl (Nat.le_of_ble_eq_true rfl) dX2_goOver_23 ⟨Nat.le_of_ble_eq_true rfl, Nat.le_of_ble_eq_true rfl⟩ ⟨Nat.le_refl _, Nat.le_refl _⟩) hS (fun r_9 σ_11 H locs hP_10 hS => ?_)
        obtain ⟨rfl, rfl⟩ := hP_10
        rw [hgr]
        refine lv_iload_n C.1 C.2.1 dX2_goOver_26 rfl (lv_at hl 5 rfl) ?_
        refine ti_icmp_gt (tgt := 34) C.1 C.2.1 dX2_goOver_27 (by decide) ⟨by omega, by omega⟩ ⟨by omega, by omega⟩ (fun hc_12 => ?_) (fun hc_12 => ?_)
        · skip
          refine ti_const C.1 C.2.1 dX2_goOver_34 ?_
          refine lv_istore (lv' := [(7, .int (iI (0))), (6, .int (iI (pl))), (5, .int (iI (was))), (4, .int (iI (many))), (0, .ref (mo)), (1, .int (iI (b))), (2, .int (iI (g))), (3, .int (iI (wn)))]) C.1 C.2.1 dX2_goOver_35 hl (by decide) rfl (fun ls hl => ?_)
          refine lv_iload C.1 C.2.1 dX2_goOver_37 (lv_at hl 0 rfl) ?_
          refine ti_if_eq (tgt := 65) C.1 C.2.1 dX2_goOver_39 (by decide) ⟨by decide, by decide⟩ (fun hc_13 => ?_) (fun hc_13 => ?_)
          · skip
            refine lv_iload C.1 C.2.1 dX2_goOver_65 (lv_at hl 0 rfl) ?_
            refine ti_if_eq (tgt := 81) C.1 C.2.1 dX2_goOver_67 (by decide) ⟨by decide, by decide⟩ (fun hc_14 => ?_) (fun hc_14 => ?_)
            · skip
              refine lv_iload C.1 C.2.1 dX2_goOver_81 (lv_at hl 0 rfl) ?_
              refine lv_istore (lv' := [(5, .int (iI (0))), (7, .int (iI (0))), (6, .int (iI (pl))), (4, .int (iI (many))), (0, .ref (mo)), (1, .int (iI (b))), (2, .int (iI (g))), (3, .int (iI (wn)))]) C.1 C.2.1 dX2_goOver_83 hl (by decide) rfl (fun ls hl => ?_)
              refine lv_aload_n C.1 C.2.1 dX2_goOver_85 rfl (lv_at hl 4 rfl) ?_
              refine lv_iload_n C.1 C.2.1 dX2_goOver_86 rfl (lv_at hl 5 rfl) ?_
              refine lv_iload C.1 C.2.1 dX2_goOver_87 (lv_at hl 2 rfl) ?_
              have hbn := mNext_bd (M := M) (b := b) (pl := pl) (by omega)
              refine tl_ci (t_V (n := 2) (ci := 8) C hml hS (m2_nextChange l X σc mo ad (mset (mset M 7 sf) 8 stt) hMc hIc (b) (pl) (by omega)) q1850 q1852 qs31 q53 q1853 (by decide +kernel) hm rfl rfl hl.1 rfl (Nat.le_of_ble_eq_true rfl) dX2_goOver_89 ⟨Nat.le_of_ble_eq_true rfl, Nat.le_of_ble_eq_true rfl⟩ ⟨Nat.le_refl _, Nat.le_refl _⟩) hS (fun r_15 σ_17 H locs hP_16 hS => ?_)
              obtain ⟨rfl, rfl⟩ := hP_16
              rw [hnx]
              refine lv_istore (lv' := [(6, .int (iI ((mNext M b pl)))), (5, .int (iI (0))), (7, .int (iI (0))), (4, .int (iI (many))), (0, .ref (mo)), (1, .int (iI (b))), (2, .int (iI (g))), (3, .int (iI (wn)))]) C.1 C.2.1 dX2_goOver_92 hl (by decide) rfl (fun ls hl => ?_)
              refine lv_goto (tgt := 9) C.1 C.2.1 dX2_goOver_94 (by decide) ?_
              exact ih_3 (many) (0) ((mNext M b pl)) (sf) (stt) ⟨by omega, by (rw [← hR]; show _ = (if _ then _ else _); (repeat (first | rw [if_pos (by omega)] | rw [if_neg (by omega)])))⟩ (by omega) σc ⟨hm, h0, h1, h2, h3, h4, h5, hd⟩ hfr _ _ _ hS (lv_sub hl [0, 1, 3, 4, 5, 6, 7] rfl)
            · skip
              exact absurd hc_14 (by decide)
          · skip
            exact absurd hc_13 (by decide)
        · skip
          refine ti_const C.1 C.2.1 dX2_goOver_30 ?_
          refine lv_goto (tgt := 35) C.1 C.2.1 dX2_goOver_31 (by decide) ?_
          refine lv_istore (lv' := [(7, .int (iI (1))), (6, .int (iI (pl))), (5, .int (iI (was))), (4, .int (iI (many))), (0, .ref (mo)), (1, .int (iI (b))), (2, .int (iI (g))), (3, .int (iI (wn)))]) C.1 C.2.1 dX2_goOver_35 hl (by decide) rfl (fun ls hl => ?_)
          refine lv_iload C.1 C.2.1 dX2_goOver_37 (lv_at hl 0 rfl) ?_
          refine ti_if_eq (tgt := 65) C.1 C.2.1 dX2_goOver_39 (by decide) ⟨by decide, by decide⟩ (fun hc_18 => ?_) (fun hc_18 => ?_)
          · skip
            exact absurd hc_18 (by decide)
          · skip
            refine lv_iload C.1 C.2.1 dX2_goOver_42 (lv_at hl 2 rfl) ?_
            refine ti_if_ne (tgt := 65) C.1 C.2.1 dX2_goOver_44 (by decide) ⟨by omega, by omega⟩ (fun hc_19 => ?_) (fun hc_19 => ?_)
            · skip
              refine lv_iload C.1 C.2.1 dX2_goOver_65 (lv_at hl 0 rfl) ?_
              refine ti_if_eq (tgt := 81) C.1 C.2.1 dX2_goOver_67 (by decide) ⟨by decide, by decide⟩ (fun hc_20 => ?_) (fun hc_20 => ?_)
              · skip
                exact absurd hc_20 (by decide)
              · skip
                refine lv_aload_n C.1 C.2.1 dX2_goOver_70 rfl (lv_at hl 4 rfl) ?_
                refine lv_aload_n C.1 C.2.1 dX2_goOver_71 rfl (lv_at hl 4 rfl) ?_
                refine lv_iload_n C.1 C.2.1 dX2_goOver_72 rfl (lv_at hl 5 rfl) ?_
                refine lv_iload C.1 C.2.1 dX2_goOver_73 (lv_at hl 1 rfl) ?_
                have hbn := mNext_bd (M := M) (b := b) (pl := pl) (by omega)
                refine tl_ci (t_V (n := 2) (ci := 8) C hml hS (m2_nextChange l X σc mo ad (mset (mset M 7 sf) 8 stt) hMc hIc (b) (pl) (by omega)) q1850 q1852 qs31 q53 q1853 (by decide +kernel) hm rfl rfl hl.1 rfl (Nat.le_of_ble_eq_true rfl) dX2_goOver_75 ⟨Nat.le_of_ble_eq_true rfl, Nat.le_of_ble_eq_true rfl⟩ ⟨Nat.le_refl _, Nat.le_refl _⟩) hS (fun r_21 σ_23 H locs hP_22 hS => ?_)
                obtain ⟨rfl, rfl⟩ := hP_22
                rw [hnx]
                refine gp_X2_100_8 C hS hm rfl rfl (Nat.le_of_ble_eq_true rfl) dX2_goOver_78 (fun H locs hS => ?_)
                obtain ⟨σ_24, eσ_24⟩ : ∃ z, z = va_up σc (mo) (some (oO 8 [.int (iI (M.1 0)), .int (iI (M.1 1)), .ref (ad 0), .int (iI (M.1 2)), .ref (ad 1), .int (iI (M.1 3)), .ref (ad 2), .ref (ad 3), .int (iI (M.1 4)), .int (iI (M.1 5)), .int (iI (M.1 6)), .ref (ad 4), .ref (ad 5), .int (iI (sf)), .int (iI ((mNext M b pl)))])) := ⟨_, rfl⟩
                have hS : tl_S X s σ_24 H locs := by rw [eσ_24]; exact hS
                have he_25 : σ_24 (mo) = some (oO 8 [.int (iI (M.1 0)), .int (iI (M.1 1)), .ref (ad 0), .int (iI (M.1 2)), .ref (ad 1), .int (iI (M.1 3)), .ref (ad 2), .ref (ad 3), .int (iI (M.1 4)), .int (iI (M.1 5)), .int (iI (M.1 6)), .ref (ad 4), .ref (ad 5), .int (iI (sf)), .int (iI ((mNext M b pl)))]) := by rw [eσ_24]; exact up_s
                have he_26 := up_kp eσ_24 (Ne.symm (tl_neA hm h0)) h0
                have he_27 := up_kp eσ_24 (Ne.symm (tl_neA hm h1)) h1
                have he_28 := up_kp eσ_24 (Ne.symm (tl_neA hm h2)) h2
                have he_29 := up_kp eσ_24 (Ne.symm (tl_neA hm h3)) h3
                have he_30 := up_kp eσ_24 (Ne.symm (tl_neA hm h4)) h4
                have he_31 := up_kp eσ_24 (Ne.symm (tl_neA hm h5)) h5
                have hfr := hfr.up hm mK_o eσ_24
                refine lv_iload C.1 C.2.1 dX2_goOver_81 (lv_at hl 0 rfl) ?_
                refine lv_istore (lv' := [(5, .int (iI (1))), (7, .int (iI (1))), (6, .int (iI (pl))), (4, .int (iI (many))), (0, .ref (mo)), (1, .int (iI (b))), (2, .int (iI (g))), (3, .int (iI (wn)))]) C.1 C.2.1 dX2_goOver_83 hl (by decide) rfl (fun ls hl => ?_)
                refine lv_aload_n C.1 C.2.1 dX2_goOver_85 rfl (lv_at hl 4 rfl) ?_
                refine lv_iload_n C.1 C.2.1 dX2_goOver_86 rfl (lv_at hl 5 rfl) ?_
                refine lv_iload C.1 C.2.1 dX2_goOver_87 (lv_at hl 2 rfl) ?_
                have hMd_32 : MD X σ_24 mo ad (mset (mset M 7 (sf)) 8 ((mNext M b pl))) := ⟨he_25, he_26, he_27, he_28, he_29, he_30, he_31, hd⟩
                have hIhMd_32 : mI (mset (mset M 7 (sf)) 8 ((mNext M b pl))) := hI.s78 (by omega) (by omega)
                have hbn := mNext_bd (M := M) (b := b) (pl := pl) (by omega)
                refine tl_ci (t_V (n := 2) (ci := 8) C hml hS (m2_nextChange l X σ_24 mo ad (mset (mset M 7 (sf)) 8 ((mNext M b pl))) hMd_32 hIhMd_32 (b) (pl) (by omega)) q1850 q1852 qs31 q53 q1853 (by decide +kernel) he_25 rfl rfl hl.1 rfl (Nat.le_of_ble_eq_true rfl) dX2_goOver_89 ⟨Nat.le_of_ble_eq_true rfl, Nat.le_of_ble_eq_true rfl⟩ ⟨Nat.le_refl _, Nat.le_refl _⟩) hS (fun r_33 σ_35 H locs hP_34 hS => ?_)
                obtain ⟨rfl, rfl⟩ := hP_34
                rw [hnx]
                refine lv_istore (lv' := [(6, .int (iI ((mNext M b pl)))), (5, .int (iI (1))), (7, .int (iI (1))), (4, .int (iI (many))), (0, .ref (mo)), (1, .int (iI (b))), (2, .int (iI (g))), (3, .int (iI (wn)))]) C.1 C.2.1 dX2_goOver_92 hl (by decide) rfl (fun ls hl => ?_)
                refine lv_goto (tgt := 9) C.1 C.2.1 dX2_goOver_94 (by decide) ?_
                exact ih_3 (many) (1) ((mNext M b pl)) (sf) ((mNext M b pl)) ⟨by omega, by (rw [← hR]; show _ = (if _ then _ else _); (repeat (first | rw [if_pos (by omega)] | rw [if_neg (by omega)])))⟩ (by omega) σ_24 ⟨he_25, he_26, he_27, he_28, he_29, he_30, he_31, hd⟩ hfr _ _ _ hS (lv_sub hl [0, 1, 3, 4, 5, 6, 7] rfl)
            · skip
              refine lv_iload C.1 C.2.1 dX2_goOver_47 (lv_at hl 3 rfl) ?_
              refine lv_iload_n C.1 C.2.1 dX2_goOver_49 rfl (lv_at hl 7 rfl) ?_
              refine ti_icmp_le (tgt := 56) C.1 C.2.1 dX2_goOver_50 (by decide) ⟨by omega, by omega⟩ ⟨by omega, by omega⟩ (fun hc_36 => ?_) (fun hc_36 => ?_)
              · skip
                refine ti_iinc (lv' := [(4, .int (iI ((many + 1)))), (7, .int (iI (1))), (6, .int (iI (pl))), (5, .int (iI (was))), (0, .ref (mo)), (1, .int (iI (b))), (2, .int (iI (g))), (3, .int (iI (wn)))]) C.1 C.2.1 dX2_goOver_56 hl (k := 3) rfl (by decide) rfl (fun ls hl => ?_)
                refine lv_aload_n C.1 C.2.1 dX2_goOver_59 rfl (lv_at hl 4 rfl) ?_
                refine lv_iload C.1 C.2.1 dX2_goOver_60 (lv_at hl 2 rfl) ?_
                refine gp_X2_94_8 C hS hm rfl rfl (Nat.le_of_ble_eq_true rfl) dX2_goOver_62 (fun H locs hS => ?_)
                obtain ⟨σ_37, eσ_37⟩ : ∃ z, z = va_up σc (mo) (some (oO 8 [.int (iI (M.1 0)), .int (iI (M.1 1)), .ref (ad 0), .int (iI (M.1 2)), .ref (ad 1), .int (iI (M.1 3)), .ref (ad 2), .ref (ad 3), .int (iI (M.1 4)), .int (iI (M.1 5)), .int (iI (M.1 6)), .ref (ad 4), .ref (ad 5), .int (iI (pl)), .int (iI (stt))])) := ⟨_, rfl⟩
                have hS : tl_S X s σ_37 H locs := by rw [eσ_37]; exact hS
                have he_38 : σ_37 (mo) = some (oO 8 [.int (iI (M.1 0)), .int (iI (M.1 1)), .ref (ad 0), .int (iI (M.1 2)), .ref (ad 1), .int (iI (M.1 3)), .ref (ad 2), .ref (ad 3), .int (iI (M.1 4)), .int (iI (M.1 5)), .int (iI (M.1 6)), .ref (ad 4), .ref (ad 5), .int (iI (pl)), .int (iI (stt))]) := by rw [eσ_37]; exact up_s
                have he_39 := up_kp eσ_37 (Ne.symm (tl_neA hm h0)) h0
                have he_40 := up_kp eσ_37 (Ne.symm (tl_neA hm h1)) h1
                have he_41 := up_kp eσ_37 (Ne.symm (tl_neA hm h2)) h2
                have he_42 := up_kp eσ_37 (Ne.symm (tl_neA hm h3)) h3
                have he_43 := up_kp eσ_37 (Ne.symm (tl_neA hm h4)) h4
                have he_44 := up_kp eσ_37 (Ne.symm (tl_neA hm h5)) h5
                have hfr := hfr.up hm mK_o eσ_37
                refine lv_iload C.1 C.2.1 dX2_goOver_65 (lv_at hl 1 rfl) ?_
                refine ti_if_eq (tgt := 81) C.1 C.2.1 dX2_goOver_67 (by decide) ⟨by decide, by decide⟩ (fun hc_45 => ?_) (fun hc_45 => ?_)
                · skip
                  exact absurd hc_45 (by decide)
                · skip
                  refine lv_aload_n C.1 C.2.1 dX2_goOver_70 rfl (lv_at hl 4 rfl) ?_
                  refine lv_aload_n C.1 C.2.1 dX2_goOver_71 rfl (lv_at hl 4 rfl) ?_
                  refine lv_iload_n C.1 C.2.1 dX2_goOver_72 rfl (lv_at hl 5 rfl) ?_
                  refine lv_iload C.1 C.2.1 dX2_goOver_73 (lv_at hl 2 rfl) ?_
                  have hMd_46 : MD X σ_37 mo ad (mset (mset M 7 (pl)) 8 (stt)) := ⟨he_38, he_39, he_40, he_41, he_42, he_43, he_44, hd⟩
                  have hIhMd_46 : mI (mset (mset M 7 (pl)) 8 (stt)) := hI.s78 (by omega) (by omega)
                  have hbn := mNext_bd (M := M) (b := b) (pl := pl) (by omega)
                  refine tl_ci (t_V (n := 2) (ci := 8) C hml hS (m2_nextChange l X σ_37 mo ad (mset (mset M 7 (pl)) 8 (stt)) hMd_46 hIhMd_46 (b) (pl) (by omega)) q1850 q1852 qs31 q53 q1853 (by decide +kernel) he_38 rfl rfl hl.1 rfl (Nat.le_of_ble_eq_true rfl) dX2_goOver_75 ⟨Nat.le_of_ble_eq_true rfl, Nat.le_of_ble_eq_true rfl⟩ ⟨Nat.le_refl _, Nat.le_refl _⟩) hS (fun r_47 σ_49 H locs hP_48 hS => ?_)
                  obtain ⟨rfl, rfl⟩ := hP_48
                  rw [hnx]
                  refine gp_X2_100_8 C hS he_38 rfl rfl (Nat.le_of_ble_eq_true rfl) dX2_goOver_78 (fun H locs hS => ?_)
                  obtain ⟨σ_50, eσ_50⟩ : ∃ z, z = va_up σ_37 (mo) (some (oO 8 [.int (iI (M.1 0)), .int (iI (M.1 1)), .ref (ad 0), .int (iI (M.1 2)), .ref (ad 1), .int (iI (M.1 3)), .ref (ad 2), .ref (ad 3), .int (iI (M.1 4)), .int (iI (M.1 5)), .int (iI (M.1 6)), .ref (ad 4), .ref (ad 5), .int (iI (pl)), .int (iI ((mNext M b pl)))])) := ⟨_, rfl⟩
                  have hS : tl_S X s σ_50 H locs := by rw [eσ_50]; exact hS
                  have he_51 : σ_50 (mo) = some (oO 8 [.int (iI (M.1 0)), .int (iI (M.1 1)), .ref (ad 0), .int (iI (M.1 2)), .ref (ad 1), .int (iI (M.1 3)), .ref (ad 2), .ref (ad 3), .int (iI (M.1 4)), .int (iI (M.1 5)), .int (iI (M.1 6)), .ref (ad 4), .ref (ad 5), .int (iI (pl)), .int (iI ((mNext M b pl)))]) := by rw [eσ_50]; exact up_s
                  have he_52 := up_kp eσ_50 (Ne.symm (tl_neA he_38 he_39)) he_39
                  have he_53 := up_kp eσ_50 (Ne.symm (tl_neA he_38 he_40)) he_40
                  have he_54 := up_kp eσ_50 (Ne.symm (tl_neA he_38 he_41)) he_41
                  have he_55 := up_kp eσ_50 (Ne.symm (tl_neA he_38 he_42)) he_42
                  have he_56 := up_kp eσ_50 (Ne.symm (tl_neA he_38 he_43)) he_43
                  have he_57 := up_kp eσ_50 (Ne.symm (tl_neA he_38 he_44)) he_44
                  have hfr := hfr.up he_38 mK_o eσ_50
                  refine lv_iload C.1 C.2.1 dX2_goOver_81 (lv_at hl 1 rfl) ?_
                  refine lv_istore (lv' := [(5, .int (iI (1))), (4, .int (iI ((many + 1)))), (7, .int (iI (1))), (6, .int (iI (pl))), (0, .ref (mo)), (1, .int (iI (b))), (2, .int (iI (g))), (3, .int (iI (wn)))]) C.1 C.2.1 dX2_goOver_83 hl (by decide) rfl (fun ls hl => ?_)
                  refine lv_aload_n C.1 C.2.1 dX2_goOver_85 rfl (lv_at hl 4 rfl) ?_
                  refine lv_iload_n C.1 C.2.1 dX2_goOver_86 rfl (lv_at hl 5 rfl) ?_
                  refine lv_iload C.1 C.2.1 dX2_goOver_87 (lv_at hl 3 rfl) ?_
                  have hMd_58 : MD X σ_50 mo ad (mset (mset M 7 (pl)) 8 ((mNext M b pl))) := ⟨he_51, he_52, he_53, he_54, he_55, he_56, he_57, hd⟩
                  have hIhMd_58 : mI (mset (mset M 7 (pl)) 8 ((mNext M b pl))) := hI.s78 (by omega) (by omega)
                  have hbn := mNext_bd (M := M) (b := b) (pl := pl) (by omega)
                  refine tl_ci (t_V (n := 2) (ci := 8) C hml hS (m2_nextChange l X σ_50 mo ad (mset (mset M 7 (pl)) 8 ((mNext M b pl))) hMd_58 hIhMd_58 (b) (pl) (by omega)) q1850 q1852 qs31 q53 q1853 (by decide +kernel) he_51 rfl rfl hl.1 rfl (Nat.le_of_ble_eq_true rfl) dX2_goOver_89 ⟨Nat.le_of_ble_eq_true rfl, Nat.le_of_ble_eq_true rfl⟩ ⟨Nat.le_refl _, Nat.le_refl _⟩) hS (fun r_59 σ_61 H locs hP_60 hS => ?_)
                  obtain ⟨rfl, rfl⟩ := hP_60
                  rw [hnx]
                  refine lv_istore (lv' := [(6, .int (iI ((mNext M b pl)))), (5, .int (iI (1))), (4, .int (iI ((many + 1)))), (7, .int (iI (1))), (0, .ref (mo)), (1, .int (iI (b))), (2, .int (iI (g))), (3, .int (iI (wn)))]) C.1 C.2.1 dX2_goOver_92 hl (by decide) rfl (fun ls hl => ?_)
                  refine lv_goto (tgt := 9) C.1 C.2.1 dX2_goOver_94 (by decide) ?_
                  exact ih_3 ((many + 1)) (1) ((mNext M b pl)) (pl) ((mNext M b pl)) ⟨by omega, by (rw [← hR]; show _ = (if _ then _ else _); (repeat (first | rw [if_pos (by omega)] | rw [if_neg (by omega)])))⟩ (by omega) σ_50 ⟨he_51, he_52, he_53, he_54, he_55, he_56, he_57, hd⟩ hfr _ _ _ hS (lv_sub hl [0, 1, 2, 4, 5, 6, 7] rfl)
              · skip
                refine lv_iload C.1 C.2.1 dX2_goOver_53 (lv_at hl 3 rfl) ?_
                exact r_i C hr hlk hS (by rw [show mGoR M b g wn = (many, sf, stt) from by (rw [← hR]; show (if _ then _ else _) = _; (repeat (first | rw [if_pos (by omega)] | rw [if_neg (by omega)])))]; exact ⟨rfl, ⟨hm, h0, h1, h2, h3, h4, h5, hd⟩, hfr⟩) dX2_goOver_55
  exact loop_1 (20001) (0) (0) (0) (M.1 7) (M.1 8) ⟨by omega, rfl⟩ (by omega) σ ⟨hm, h0, h1, h2, h3, h4, h5, hd⟩ hfr _ _ _ hS (lv_sub hl [0, 1, 2, 3, 4, 5, 6] rfl)

set_option maxHeartbeats 4000000 in
theorem m2_stretches (l : Launch) (X : tl_X) (σ : tl_H) (mo : Nat) (ad : Nat → Nat) (M : mS) (hM : MD X σ mo ad M) (hI : mI M) (b g : Int) (hr : -2147483648 ≤ b ∧ b ≤ 2147483647 ∧ -2147483648 ≤ g ∧ g ≤ 2147483647) : tl_Met l X yX2_stretches cX2_stretches 3 ((Option.some FieldType.int)) 4 (0) (0) [.ref (mo), .int (iI (b)), .int (iI (g))] σ (tl_Qi X (fun r σ' => r = iI (mStretches (mset M 0 0) b g).1 ∧ MD X σ' mo ad (mStretches (mset M 0 0) b g).2 ∧ mFr σ σ')) := by
  obtain ⟨M1, eM1⟩ : ∃ z, z = mset M 0 0 := ⟨_, rfl⟩
  rw [← eM1]
  refine tl_start (by decide) (Nat.le_of_ble_eq_true rfl) (fun p e s m below meth c ls C hr hml hlk hnm hS hl => ?_)
  have hl : lv_has ls 3 [(0, .ref (mo)), (1, .int (iI (b))), (2, .int (iI (g)))] := hl
  obtain ⟨hm, h0, h1, h2, h3, h4, h5, hd⟩ := id hM
  obtain ⟨hN, hB, hPt, hJ, hA, hWn⟩ := id hI
  have hfr : mFr σ σ := mFr.rf
  refine lv_aload_n C.1 C.2.1 dX2_stretches_0 rfl (lv_at hl 0 rfl) ?_
  refine ti_const C.1 C.2.1 dX2_stretches_1 ?_
  refine gp_X2_36_8 C hS hm rfl rfl (Nat.le_of_ble_eq_true rfl) dX2_stretches_2 (fun H locs hS => ?_)
  obtain ⟨σ_1, eσ_1⟩ : ∃ z, z = va_up σ (mo) (some (oO 8 [.int (iI (0)), .int (iI (M.1 1)), .ref (ad 0), .int (iI (M.1 2)), .ref (ad 1), .int (iI (M.1 3)), .ref (ad 2), .ref (ad 3), .int (iI (M.1 4)), .int (iI (M.1 5)), .int (iI (M.1 6)), .ref (ad 4), .ref (ad 5), .int (iI (M.1 7)), .int (iI (M.1 8))])) := ⟨_, rfl⟩
  have hS : tl_S X s σ_1 H locs := by rw [eσ_1]; exact hS
  have he_2 : σ_1 (mo) = some (oO 8 [.int (iI (0)), .int (iI (M.1 1)), .ref (ad 0), .int (iI (M.1 2)), .ref (ad 1), .int (iI (M.1 3)), .ref (ad 2), .ref (ad 3), .int (iI (M.1 4)), .int (iI (M.1 5)), .int (iI (M.1 6)), .ref (ad 4), .ref (ad 5), .int (iI (M.1 7)), .int (iI (M.1 8))]) := by rw [eσ_1]; exact up_s
  have he_3 := up_kp eσ_1 (Ne.symm (tl_neA hm h0)) h0
  have he_4 := up_kp eσ_1 (Ne.symm (tl_neA hm h1)) h1
  have he_5 := up_kp eσ_1 (Ne.symm (tl_neA hm h2)) h2
  have he_6 := up_kp eσ_1 (Ne.symm (tl_neA hm h3)) h3
  have he_7 := up_kp eσ_1 (Ne.symm (tl_neA hm h4)) h4
  have he_8 := up_kp eσ_1 (Ne.symm (tl_neA hm h5)) h5
  have hfr := hfr.up hm mK_o eσ_1
  have hM1 : MD X σ_1 mo ad M1 := by rw [eM1]; exact ⟨he_2, he_3, he_4, he_5, he_6, he_7, he_8, hd⟩
  have hI1 : mI M1 := by rw [eM1]; exact hI.t0 0 (by decide)
  obtain ⟨hm, h0, h1, h2, h3, h4, h5, hd⟩ := id hM1
  obtain ⟨hN, hB, hPt, hJ, hA, hWn⟩ := id hI1
  refine lv_aload_n C.1 C.2.1 dX2_stretches_5 rfl (lv_at hl 0 rfl) ?_
  refine lv_iload_n C.1 C.2.1 dX2_stretches_6 rfl (lv_at hl 1 rfl) ?_
  refine tl_ci (t_V (n := 1) (ci := 8) C hml hS (m2_isBoard l X σ_1 mo ad M1 hM1 hI1 (b) (by omega)) q1793 q1795 qs22 q53 q1796 (by decide +kernel) hm rfl rfl hl.1 rfl (Nat.le_of_ble_eq_true rfl) dX2_stretches_7 ⟨Nat.le_of_ble_eq_true rfl, Nat.le_of_ble_eq_true rfl⟩ ⟨Nat.le_refl _, Nat.le_refl _⟩) hS (fun r_9 σ_11 H locs hP_10 hS => ?_)
  obtain ⟨rfl, rfl⟩ := hP_10
  refine ti_tb_ne (tgt := 19) C.1 C.2.1 dX2_stretches_10 (by decide) (fun hc_12 => ?_) (fun hc_12 => ?_)
  · skip
    refine lv_iload_n C.1 C.2.1 dX2_stretches_19 rfl (lv_at hl 2 rfl) ?_
    refine ti_const C.1 C.2.1 dX2_stretches_20 ?_
    refine ti_const C.1 C.2.1 dX2_stretches_21 ?_
    refine tl_ci (t_S (n := 3) C hml hS (m2_isIn l X σ_1 (g) (0) (3) (by omega)) q1782 q1783 q53 q1784 (by decide +kernel) rfl hl.1 rfl (Nat.le_of_ble_eq_true rfl) dX2_stretches_22 ⟨Nat.le_of_ble_eq_true rfl, Nat.le_of_ble_eq_true rfl⟩ ⟨Nat.le_refl _, Nat.le_refl _⟩) hS (fun r_13 σ_15 H locs hP_14 hS => ?_)
    obtain ⟨rfl, rfl⟩ := hP_14
    refine ti_tb_eq (tgt := 40) C.1 C.2.1 dX2_stretches_25 (by decide) (fun hc_16 => ?_) (fun hc_16 => ?_)
    · skip
      refine lv_aload_n C.1 C.2.1 dX2_stretches_40 rfl (lv_at hl 0 rfl) ?_
      refine ti_const C.1 C.2.1 dX2_stretches_41 ?_
      refine tl_ci (t_V (n := 1) (ci := 8) C hml hS (m2_fail l X σ_1 mo ad M1 ⟨hm, h0, h1, h2, h3, h4, h5, hd⟩ (2)) q1785 q1787 qs21 q53 q1788 (by decide +kernel) hm rfl rfl hl.1 rfl (Nat.le_of_ble_eq_true rfl) dX2_stretches_42 ⟨Nat.le_of_ble_eq_true rfl, Nat.le_of_ble_eq_true rfl⟩ ⟨Nat.le_refl _, Nat.le_refl _⟩) hS (fun r_17 σ_19 H locs hP_18 hS => ?_)
      obtain ⟨rfl, hM_20, hfr9⟩ := hP_18
      have hfr := hfr.trans hfr9
      obtain ⟨hm_21, hm_22, hm_23, hm_24, hm_25, hm_26, hm_27, hd⟩ := id hM_20
      exact r_i C hr hlk hS (by rw [show mStretches M1 b g = (0, (mset M1 0 (2))) from by (unfold mStretches; (repeat (first | rw [if_pos (by omega)] | rw [if_neg (by omega)])); try rfl)]; exact ⟨rfl, ⟨hm_21, hm_22, hm_23, hm_24, hm_25, hm_26, hm_27, hd⟩, hfr⟩) dX2_stretches_45
    · skip
      refine lv_aload_n C.1 C.2.1 dX2_stretches_28 rfl (lv_at hl 0 rfl) ?_
      refine lv_iload_n C.1 C.2.1 dX2_stretches_29 rfl (lv_at hl 1 rfl) ?_
      refine lv_iload_n C.1 C.2.1 dX2_stretches_30 rfl (lv_at hl 2 rfl) ?_
      refine ti_sipush C.1 C.2.1 dX2_stretches_31 (by decide) ?_
      refine tl_ci (t_V (n := 3) (ci := 8) C hml hS (m2_goOver l X σ_1 mo ad M1 hM1 hI1 (b) (g) (3000) (by omega)) q1846 q1848 qs30 q53 q1849 (by decide +kernel) hm rfl rfl hl.1 rfl (Nat.le_of_ble_eq_true rfl) dX2_stretches_34 ⟨Nat.le_of_ble_eq_true rfl, Nat.le_of_ble_eq_true rfl⟩ ⟨Nat.le_refl _, Nat.le_refl _⟩) hS (fun r_28 σ_30 H locs hP_29 hS => ?_)
      obtain ⟨rfl, hM_31, hfr9⟩ := hP_29
      have hfr := hfr.trans hfr9
      obtain ⟨hm_32, hm_33, hm_34, hm_35, hm_36, hm_37, hm_38, hd⟩ := id hM_31
      refine lv_goto (tgt := 45) C.1 C.2.1 dX2_stretches_37 (by decide) ?_
      exact r_i C hr hlk hS (by rw [show mStretches M1 b g = ((mGoR M1 (b) (g) (3000)).1, (mset (mset M1 7 (mGoR M1 (b) (g) (3000)).2.1) 8 (mGoR M1 (b) (g) (3000)).2.2)) from by (unfold mStretches; (repeat (first | rw [if_pos (by omega)] | rw [if_neg (by omega)])); try rfl)]; exact ⟨rfl, ⟨hm_32, hm_33, hm_34, hm_35, hm_36, hm_37, hm_38, hd⟩, hfr⟩) dX2_stretches_45
  · skip
    refine lv_aload_n C.1 C.2.1 dX2_stretches_13 rfl (lv_at hl 0 rfl) ?_
    refine ti_const C.1 C.2.1 dX2_stretches_14 ?_
    refine tl_ci (t_V (n := 1) (ci := 8) C hml hS (m2_fail l X σ_1 mo ad M1 ⟨hm, h0, h1, h2, h3, h4, h5, hd⟩ (1)) q1785 q1787 qs21 q53 q1788 (by decide +kernel) hm rfl rfl hl.1 rfl (Nat.le_of_ble_eq_true rfl) dX2_stretches_15 ⟨Nat.le_of_ble_eq_true rfl, Nat.le_of_ble_eq_true rfl⟩ ⟨Nat.le_refl _, Nat.le_refl _⟩) hS (fun r_39 σ_41 H locs hP_40 hS => ?_)
    obtain ⟨rfl, hM_42, hfr9⟩ := hP_40
    have hfr := hfr.trans hfr9
    obtain ⟨hm_43, hm_44, hm_45, hm_46, hm_47, hm_48, hm_49, hd⟩ := id hM_42
    exact r_i C hr hlk hS (by rw [show mStretches M1 b g = (0, (mset M1 0 (1))) from by (unfold mStretches; (repeat (first | rw [if_pos (by omega)] | rw [if_neg (by omega)])); try rfl)]; exact ⟨rfl, ⟨hm_43, hm_44, hm_45, hm_46, hm_47, hm_48, hm_49, hd⟩, hfr⟩) dX2_stretches_18

theorem mGoR_bd {M : mS} (hI : mI M) {b g wn : Int} : 0 ≤ (mGoR M b g wn).1 ∧ (mGoR M b g wn).1 ≤ 30000 := by
  have key : ∀ (k : Nat) (many was pl sf st : Int), 0 ≤ many → 0 ≤ (mGo M b g wn k many was pl sf st).1 ∧ (mGo M b g wn k many was pl sf st).1 ≤ many + k := by
    intro k
    induction k with
    | zero => intro many was pl sf st h; show 0 ≤ many ∧ many ≤ many + ((0 : Nat) : Int); omega
    | succ k ih =>
      intro many was pl sf st h
      unfold mGo
      split
      · dsimp only; omega
      · split
        · split
          · split
            · dsimp only; omega
            · have := ih (many + 1) 1 (mNext M b pl) pl (mNext M b pl) (by omega); omega
          · have := ih many 1 (mNext M b pl) sf (mNext M b pl) (by omega); omega
        · have := ih many 0 (mNext M b pl) sf st (by omega); omega
  have := key 20001 0 0 0 (M.1 7) (M.1 8) (by decide)
  unfold mGoR
  omega
theorem gf_X2_94_8 {p : Program} {l : Launch} {e : Env} {R : Room} {s : State} {m : MethodId} {args : Array Value} {below : List Frame} {meth : Method} {c : Code} {H : Heap} {locs : List Loc} {cells slots : Nat} {Q : State → Prop} {cc : ByteArray} {pc : Nat} {ls : Array Slot} {rest : List Value} {X : tl_X} {σ : tl_H} {a : Nat} {fs : List Value} {v : Value} (C : tl_C X p s m args c cc RX2) (hS : tl_S X s σ H locs) (he : σ a = some (oO 8 fs)) (hv : fs[13]? = some v) (hdg : decode cc pc = .ok (.getfield 94, 3)) (kk : W p l e R s m args below meth c H locs cells slots Q (F0 m (pc + 3) ls (v :: rest))) : W p l e R s m args below meth c H locs cells slots Q (F0 m pc ls (.ref a :: rest)) :=
  h_get (ref := "TimberListModel") C hS in_X2 rfl 13 (by decide) q1740 (fun _ h => h) he hv hdg kk
theorem gf_X2_100_8 {p : Program} {l : Launch} {e : Env} {R : Room} {s : State} {m : MethodId} {args : Array Value} {below : List Frame} {meth : Method} {c : Code} {H : Heap} {locs : List Loc} {cells slots : Nat} {Q : State → Prop} {cc : ByteArray} {pc : Nat} {ls : Array Slot} {rest : List Value} {X : tl_X} {σ : tl_H} {a : Nat} {fs : List Value} {v : Value} (C : tl_C X p s m args c cc RX2) (hS : tl_S X s σ H locs) (he : σ a = some (oO 8 fs)) (hv : fs[14]? = some v) (hdg : decode cc pc = .ok (.getfield 100, 3)) (kk : W p l e R s m args below meth c H locs cells slots Q (F0 m (pc + 3) ls (v :: rest))) : W p l e R s m args below meth c H locs cells slots Q (F0 m pc ls (.ref a :: rest)) :=
  h_get (ref := "TimberListModel") C hS in_X2 rfl 14 (by decide) q1741 (fun _ h => h) he hv hdg kk
set_option maxHeartbeats 4000000 in
theorem m2_stretch (l : Launch) (X : tl_X) (σ : tl_H) (mo : Nat) (ad : Nat → Nat) (M : mS) (hM : MD X σ mo ad M) (hI : mI M) (b g k ie : Int) (hr : -2147483648 ≤ b ∧ b ≤ 2147483647 ∧ -2147483648 ≤ g ∧ g ≤ 2147483647 ∧ -2147483648 ≤ k ∧ k ≤ 2147483647) (hie : ie = 0 ∨ ie = 1) : tl_Met l X yX2_stretch cX2_stretch 5 ((Option.some FieldType.int)) 4 (0) (0) [.ref (mo), .int (iI (b)), .int (iI (g)), .int (iI (k)), .int (iI (ie))] σ (tl_Qi X (fun r σ' => r = iI (mStretch (mset M 0 0) b g k ie).1 ∧ MD X σ' mo ad (mStretch (mset M 0 0) b g k ie).2 ∧ mFr σ σ')) := by
  obtain ⟨M1, eM1⟩ : ∃ z, z = mset M 0 0 := ⟨_, rfl⟩
  rw [← eM1]
  refine tl_start (by decide) (Nat.le_of_ble_eq_true rfl) (fun p e s m below meth c ls C hr hml hlk hnm hS hl => ?_)
  have hl : lv_has ls 5 [(0, .ref (mo)), (1, .int (iI (b))), (2, .int (iI (g))), (3, .int (iI (k))), (4, .int (iI (ie)))] := hl
  obtain ⟨hm, h0, h1, h2, h3, h4, h5, hd⟩ := id hM
  obtain ⟨hN, hB, hPt, hJ, hA, hWn⟩ := id hI
  have hfr : mFr σ σ := mFr.rf
  refine lv_aload_n C.1 C.2.1 dX2_stretch_0 rfl (lv_at hl 0 rfl) ?_
  refine ti_const C.1 C.2.1 dX2_stretch_1 ?_
  refine gp_X2_36_8 C hS hm rfl rfl (Nat.le_of_ble_eq_true rfl) dX2_stretch_2 (fun H locs hS => ?_)
  obtain ⟨σ_1, eσ_1⟩ : ∃ z, z = va_up σ (mo) (some (oO 8 [.int (iI (0)), .int (iI (M.1 1)), .ref (ad 0), .int (iI (M.1 2)), .ref (ad 1), .int (iI (M.1 3)), .ref (ad 2), .ref (ad 3), .int (iI (M.1 4)), .int (iI (M.1 5)), .int (iI (M.1 6)), .ref (ad 4), .ref (ad 5), .int (iI (M.1 7)), .int (iI (M.1 8))])) := ⟨_, rfl⟩
  have hS : tl_S X s σ_1 H locs := by rw [eσ_1]; exact hS
  have he_2 : σ_1 (mo) = some (oO 8 [.int (iI (0)), .int (iI (M.1 1)), .ref (ad 0), .int (iI (M.1 2)), .ref (ad 1), .int (iI (M.1 3)), .ref (ad 2), .ref (ad 3), .int (iI (M.1 4)), .int (iI (M.1 5)), .int (iI (M.1 6)), .ref (ad 4), .ref (ad 5), .int (iI (M.1 7)), .int (iI (M.1 8))]) := by rw [eσ_1]; exact up_s
  have he_3 := up_kp eσ_1 (Ne.symm (tl_neA hm h0)) h0
  have he_4 := up_kp eσ_1 (Ne.symm (tl_neA hm h1)) h1
  have he_5 := up_kp eσ_1 (Ne.symm (tl_neA hm h2)) h2
  have he_6 := up_kp eσ_1 (Ne.symm (tl_neA hm h3)) h3
  have he_7 := up_kp eσ_1 (Ne.symm (tl_neA hm h4)) h4
  have he_8 := up_kp eσ_1 (Ne.symm (tl_neA hm h5)) h5
  have hfr := hfr.up hm mK_o eσ_1
  have hM1 : MD X σ_1 mo ad M1 := by rw [eM1]; exact ⟨he_2, he_3, he_4, he_5, he_6, he_7, he_8, hd⟩
  have hI1 : mI M1 := by rw [eM1]; exact hI.t0 0 (by decide)
  obtain ⟨hm, h0, h1, h2, h3, h4, h5, hd⟩ := id hM1
  obtain ⟨hN, hB, hPt, hJ, hA, hWn⟩ := id hI1
  refine lv_aload_n C.1 C.2.1 dX2_stretch_5 rfl (lv_at hl 0 rfl) ?_
  refine lv_iload_n C.1 C.2.1 dX2_stretch_6 rfl (lv_at hl 1 rfl) ?_
  refine tl_ci (t_V (n := 1) (ci := 8) C hml hS (m2_isBoard l X σ_1 mo ad M1 hM1 hI1 (b) (by omega)) q1793 q1795 qs22 q53 q1796 (by decide +kernel) hm rfl rfl hl.1 rfl (Nat.le_of_ble_eq_true rfl) dX2_stretch_7 ⟨Nat.le_of_ble_eq_true rfl, Nat.le_of_ble_eq_true rfl⟩ ⟨Nat.le_refl _, Nat.le_refl _⟩) hS (fun r_9 σ_11 H locs hP_10 hS => ?_)
  obtain ⟨rfl, rfl⟩ := hP_10
  refine ti_tb_ne (tgt := 19) C.1 C.2.1 dX2_stretch_10 (by decide) (fun hc_12 => ?_) (fun hc_12 => ?_)
  · skip
    refine lv_iload_n C.1 C.2.1 dX2_stretch_19 rfl (lv_at hl 2 rfl) ?_
    refine ti_const C.1 C.2.1 dX2_stretch_20 ?_
    refine ti_const C.1 C.2.1 dX2_stretch_21 ?_
    refine tl_ci (t_S (n := 3) C hml hS (m2_isIn l X σ_1 (g) (0) (3) (by omega)) q1782 q1783 q53 q1784 (by decide +kernel) rfl hl.1 rfl (Nat.le_of_ble_eq_true rfl) dX2_stretch_22 ⟨Nat.le_of_ble_eq_true rfl, Nat.le_of_ble_eq_true rfl⟩ ⟨Nat.le_refl _, Nat.le_refl _⟩) hS (fun r_13 σ_15 H locs hP_14 hS => ?_)
    obtain ⟨rfl, rfl⟩ := hP_14
    refine ti_tb_eq (tgt := 43) C.1 C.2.1 dX2_stretch_25 (by decide) (fun hc_16 => ?_) (fun hc_16 => ?_)
    · skip
      refine lv_aload_n C.1 C.2.1 dX2_stretch_43 rfl (lv_at hl 0 rfl) ?_
      refine ti_const C.1 C.2.1 dX2_stretch_44 ?_
      refine tl_ci (t_V (n := 1) (ci := 8) C hml hS (m2_fail l X σ_1 mo ad M1 ⟨hm, h0, h1, h2, h3, h4, h5, hd⟩ (2)) q1785 q1787 qs21 q53 q1788 (by decide +kernel) hm rfl rfl hl.1 rfl (Nat.le_of_ble_eq_true rfl) dX2_stretch_45 ⟨Nat.le_of_ble_eq_true rfl, Nat.le_of_ble_eq_true rfl⟩ ⟨Nat.le_refl _, Nat.le_refl _⟩) hS (fun r_17 σ_19 H locs hP_18 hS => ?_)
      obtain ⟨rfl, hM_20, hfr9⟩ := hP_18
      have hfr := hfr.trans hfr9
      obtain ⟨hm_21, hm_22, hm_23, hm_24, hm_25, hm_26, hm_27, hd⟩ := id hM_20
      exact r_i C hr hlk hS (by rw [show mStretch M1 b g k ie = (0, (mset M1 0 (2))) from by (unfold mStretch; (repeat (first | rw [if_pos (by omega)] | rw [if_neg (by omega)])); try rfl)]; exact ⟨rfl, ⟨hm_21, hm_22, hm_23, hm_24, hm_25, hm_26, hm_27, hd⟩, hfr⟩) dX2_stretch_48
    · skip
      refine lv_iload_n C.1 C.2.1 dX2_stretch_28 rfl (lv_at hl 3 rfl) ?_
      refine ti_if_lt (tgt := 43) C.1 C.2.1 dX2_stretch_29 (by decide) ⟨by omega, by omega⟩ (fun hc_28 => ?_) (fun hc_28 => ?_)
      · skip
        refine lv_aload_n C.1 C.2.1 dX2_stretch_43 rfl (lv_at hl 0 rfl) ?_
        refine ti_const C.1 C.2.1 dX2_stretch_44 ?_
        refine tl_ci (t_V (n := 1) (ci := 8) C hml hS (m2_fail l X σ_1 mo ad M1 ⟨hm, h0, h1, h2, h3, h4, h5, hd⟩ (2)) q1785 q1787 qs21 q53 q1788 (by decide +kernel) hm rfl rfl hl.1 rfl (Nat.le_of_ble_eq_true rfl) dX2_stretch_45 ⟨Nat.le_of_ble_eq_true rfl, Nat.le_of_ble_eq_true rfl⟩ ⟨Nat.le_refl _, Nat.le_refl _⟩) hS (fun r_29 σ_31 H locs hP_30 hS => ?_)
        obtain ⟨rfl, hM_32, hfr9⟩ := hP_30
        have hfr := hfr.trans hfr9
        obtain ⟨hm_33, hm_34, hm_35, hm_36, hm_37, hm_38, hm_39, hd⟩ := id hM_32
        exact r_i C hr hlk hS (by rw [show mStretch M1 b g k ie = (0, (mset M1 0 (2))) from by (unfold mStretch; (repeat (first | rw [if_pos (by omega)] | rw [if_neg (by omega)])); try rfl)]; exact ⟨rfl, ⟨hm_33, hm_34, hm_35, hm_36, hm_37, hm_38, hm_39, hd⟩, hfr⟩) dX2_stretch_48
      · skip
        refine lv_aload_n C.1 C.2.1 dX2_stretch_32 rfl (lv_at hl 0 rfl) ?_
        refine lv_iload_n C.1 C.2.1 dX2_stretch_33 rfl (lv_at hl 1 rfl) ?_
        refine lv_iload_n C.1 C.2.1 dX2_stretch_34 rfl (lv_at hl 2 rfl) ?_
        refine lv_iload_n C.1 C.2.1 dX2_stretch_35 rfl (lv_at hl 3 rfl) ?_
        have hbo := mGoR_bd hI1 (b := b) (g := g) (wn := k)
        refine tl_ci (t_V (n := 3) (ci := 8) C hml hS (m2_goOver l X σ_1 mo ad M1 hM1 hI1 (b) (g) (k) (by omega)) q1846 q1848 qs30 q53 q1849 (by decide +kernel) hm rfl rfl hl.1 rfl (Nat.le_of_ble_eq_true rfl) dX2_stretch_36 ⟨Nat.le_of_ble_eq_true rfl, Nat.le_of_ble_eq_true rfl⟩ ⟨Nat.le_refl _, Nat.le_refl _⟩) hS (fun r_40 σ_42 H locs hP_41 hS => ?_)
        obtain ⟨rfl, hM_43, hfr9⟩ := hP_41
        have hfr := hfr.trans hfr9
        obtain ⟨hm_44, hm_45, hm_46, hm_47, hm_48, hm_49, hm_50, hd⟩ := id hM_43
        refine lv_iload_n C.1 C.2.1 dX2_stretch_39 rfl (lv_at hl 3 rfl) ?_
        refine ti_icmp_gt (tgt := 49) C.1 C.2.1 dX2_stretch_40 (by decide) ⟨by omega, by omega⟩ ⟨by omega, by omega⟩ (fun hc_51 => ?_) (fun hc_51 => ?_)
        · skip
          refine lv_iload C.1 C.2.1 dX2_stretch_49 (lv_at hl 4 rfl) ?_
          refine ti_if_eq (tgt := 61) C.1 C.2.1 dX2_stretch_51 (by decide) ⟨by omega, by omega⟩ (fun hc_52 => ?_) (fun hc_52 => ?_)
          · skip
            refine lv_aload_n C.1 C.2.1 dX2_stretch_61 rfl (lv_at hl 0 rfl) ?_
            refine gf_X2_94_8 C hS hm_44 rfl dX2_stretch_62 ?_
            exact r_i C hr hlk hS (by rw [show mStretch M1 b g k ie = ((mset (mset M1 7 (mGoR M1 (b) (g) (k)).2.1) 8 (mGoR M1 (b) (g) (k)).2.2).1 7, (mset (mset M1 7 (mGoR M1 (b) (g) (k)).2.1) 8 (mGoR M1 (b) (g) (k)).2.2)) from by (unfold mStretch; (repeat (first | rw [if_pos (by omega)] | rw [if_neg (by omega)])); try rfl)]; exact ⟨rfl, ⟨hm_44, hm_45, hm_46, hm_47, hm_48, hm_49, hm_50, hd⟩, hfr⟩) dX2_stretch_65
          · skip
            refine lv_aload_n C.1 C.2.1 dX2_stretch_54 rfl (lv_at hl 0 rfl) ?_
            refine gf_X2_100_8 C hS hm_44 rfl dX2_stretch_55 ?_
            refine lv_goto (tgt := 65) C.1 C.2.1 dX2_stretch_58 (by decide) ?_
            exact r_i C hr hlk hS (by rw [show mStretch M1 b g k ie = ((mset (mset M1 7 (mGoR M1 (b) (g) (k)).2.1) 8 (mGoR M1 (b) (g) (k)).2.2).1 8, (mset (mset M1 7 (mGoR M1 (b) (g) (k)).2.1) 8 (mGoR M1 (b) (g) (k)).2.2)) from by (unfold mStretch; (repeat (first | rw [if_pos (by omega)] | rw [if_neg (by omega)])); try rfl)]; exact ⟨rfl, ⟨hm_44, hm_45, hm_46, hm_47, hm_48, hm_49, hm_50, hd⟩, hfr⟩) dX2_stretch_65
        · skip
          refine lv_aload_n C.1 C.2.1 dX2_stretch_43 rfl (lv_at hl 0 rfl) ?_
          refine ti_const C.1 C.2.1 dX2_stretch_44 ?_
          refine tl_ci (t_V (n := 1) (ci := 8) C hml hS (m2_fail l X σ_42 mo ad (mset (mset M1 7 (mGoR M1 (b) (g) (k)).2.1) 8 (mGoR M1 (b) (g) (k)).2.2) ⟨hm_44, hm_45, hm_46, hm_47, hm_48, hm_49, hm_50, hd⟩ (2)) q1785 q1787 qs21 q53 q1788 (by decide +kernel) hm_44 rfl rfl hl.1 rfl (Nat.le_of_ble_eq_true rfl) dX2_stretch_45 ⟨Nat.le_of_ble_eq_true rfl, Nat.le_of_ble_eq_true rfl⟩ ⟨Nat.le_refl _, Nat.le_refl _⟩) hS (fun r_53 σ_55 H locs hP_54 hS => ?_)
          obtain ⟨rfl, hM_56, hfr9⟩ := hP_54
          have hfr := hfr.trans hfr9
          obtain ⟨hm_57, hm_58, hm_59, hm_60, hm_61, hm_62, hm_63, hd⟩ := id hM_56
          exact r_i C hr hlk hS (by rw [show mStretch M1 b g k ie = (0, (mset (mset (mset M1 7 (mGoR M1 (b) (g) (k)).2.1) 8 (mGoR M1 (b) (g) (k)).2.2) 0 (2))) from by (unfold mStretch; (repeat (first | rw [if_pos (by omega)] | rw [if_neg (by omega)])); try rfl)]; exact ⟨rfl, ⟨hm_57, hm_58, hm_59, hm_60, hm_61, hm_62, hm_63, hd⟩, hfr⟩) dX2_stretch_48
  · skip
    refine lv_aload_n C.1 C.2.1 dX2_stretch_13 rfl (lv_at hl 0 rfl) ?_
    refine ti_const C.1 C.2.1 dX2_stretch_14 ?_
    refine tl_ci (t_V (n := 1) (ci := 8) C hml hS (m2_fail l X σ_1 mo ad M1 ⟨hm, h0, h1, h2, h3, h4, h5, hd⟩ (1)) q1785 q1787 qs21 q53 q1788 (by decide +kernel) hm rfl rfl hl.1 rfl (Nat.le_of_ble_eq_true rfl) dX2_stretch_15 ⟨Nat.le_of_ble_eq_true rfl, Nat.le_of_ble_eq_true rfl⟩ ⟨Nat.le_refl _, Nat.le_refl _⟩) hS (fun r_64 σ_66 H locs hP_65 hS => ?_)
    obtain ⟨rfl, hM_67, hfr9⟩ := hP_65
    have hfr := hfr.trans hfr9
    obtain ⟨hm_68, hm_69, hm_70, hm_71, hm_72, hm_73, hm_74, hd⟩ := id hM_67
    exact r_i C hr hlk hS (by rw [show mStretch M1 b g k ie = (0, (mset M1 0 (1))) from by (unfold mStretch; (repeat (first | rw [if_pos (by omega)] | rw [if_neg (by omega)])); try rfl)]; exact ⟨rfl, ⟨hm_68, hm_69, hm_70, hm_71, hm_72, hm_73, hm_74, hd⟩, hfr⟩) dX2_stretch_18

set_option maxHeartbeats 4000000 in
theorem m2_planOne (l : Launch) (X : tl_X) (σ : tl_H) (mo : Nat) (ad : Nat → Nat) (M : mS) (hM : MD X σ mo ad M) (hI : mI M) (h6 : ∀ q, 0 ≤ q → q < M.1 3 → 0 < M.2 2 (4 * q + 3) → M.1 6 < 216) : tl_Met l X yX2_planOne cX2_planOne 7 ((Option.some FieldType.boolean)) 5 (0) (0) [.ref (mo)] σ (tl_Qi X (fun r σ' => r = iI (mPlanOne M).1 ∧ MD X σ' mo ad (mPlanOne M).2 ∧ mFr σ σ')) := by
  refine tl_start (by decide) (Nat.le_of_ble_eq_true rfl) (fun p e s m below meth c ls C hr hml hlk hnm hS hl => ?_)
  have hl : lv_has ls 7 [(0, .ref (mo))] := hl
  obtain ⟨hm, h0, h1, h2, h3, h4, h5, hd⟩ := id hM
  obtain ⟨hN, hB, hPt, hJ, hA, hWn⟩ := id hI
  have hfr : mFr σ σ := mFr.rf
  refine ti_const C.1 C.2.1 dX2_planOne_0 ?_
  refine lv_istore_n (lv' := [(1, .int (iI ((-1)))), (0, .ref (mo))]) C.1 C.2.1 dX2_planOne_1 rfl hl (by decide) rfl (fun ls hl => ?_)
  refine ti_const C.1 C.2.1 dX2_planOne_2 ?_
  refine lv_istore_n (lv' := [(2, .int (iI (0))), (1, .int (iI ((-1)))), (0, .ref (mo))]) C.1 C.2.1 dX2_planOne_3 rfl hl (by decide) rfl (fun ls hl => ?_)
  have loop_1 : ∀ (n_2 : Nat) (pt : Int) (bs : Int), (0 ≤ pt ∧ pt ≤ M.1 3 ∧ -1 ≤ bs ∧ bs < pt) ∧ lp (mBestF M) pt (M.1 3) bs = mBest M → M.1 3 - pt < (n_2 : Int) → ∀ (H : Heap) (locs : List Loc) (ls : Array Slot), tl_S X s σ H locs → lv_has ls 7 [(2, .int (iI (pt))), (1, .int (iI (bs))), (0, .ref (mo))] → W p l e (tl_rm 5 (0) (0)) s m ([.ref (mo)] : List Value).toArray below meth c H locs (0) (0) (MQ below (tl_Qi X (fun r σ' => r = iI (mPlanOne M).1 ∧ MD X σ' mo ad (mPlanOne M).2 ∧ mFr σ σ')) ([.ref (mo)] : List Value).toArray s (0) (0) (tl_A X)) (F0 m 4 ls []) := by
    intro n_2
    induction n_2 with
    | zero => intro pt bs hinv hms; omega
    | succ n_2 ih_3 =>
      intro pt bs hinv hms_4  H locs ls hS hl
      obtain ⟨hv, hR⟩ := hinv
      refine lv_iload_n C.1 C.2.1 dX2_planOne_4 rfl (lv_at hl 0 rfl) ?_
      refine lv_aload_n C.1 C.2.1 dX2_planOne_5 rfl (lv_at hl 2 rfl) ?_
      refine gf_X2_46_8 C hS hm rfl dX2_planOne_6 ?_
      refine ti_icmp_ge (tgt := 88) C.1 C.2.1 dX2_planOne_9 (by decide) ⟨by omega, by omega⟩ ⟨by omega, by omega⟩ (fun hc_5 => ?_) (fun hc_5 => ?_)
      · skip
        have hbs := lp_ex hR (by omega)
        have hbo := mBest_ok (M := M) (by omega)
        refine lv_iload_n C.1 C.2.1 dX2_planOne_88 rfl (lv_at hl 1 rfl) ?_
        refine ti_const C.1 C.2.1 dX2_planOne_89 ?_
        refine ti_icmp_ne (tgt := 95) C.1 C.2.1 dX2_planOne_90 (by decide) ⟨by omega, by omega⟩ ⟨by decide, by decide⟩ (fun hc_6 => ?_) (fun hc_6 => ?_)
        · skip
          refine ti_const C.1 C.2.1 dX2_planOne_95 ?_
          refine lv_istore_n (lv' := [(2, .int (iI ((-1)))), (1, .int (iI (bs))), (0, .ref (mo))]) C.1 C.2.1 dX2_planOne_96 rfl hl (by decide) rfl (fun ls hl => ?_)
          refine ti_const C.1 C.2.1 dX2_planOne_97 ?_
          refine lv_istore_n (lv' := [(3, .int (iI (0))), (2, .int (iI ((-1)))), (1, .int (iI (bs))), (0, .ref (mo))]) C.1 C.2.1 dX2_planOne_98 rfl hl (by decide) rfl (fun ls hl => ?_)
          refine ti_const C.1 C.2.1 dX2_planOne_99 ?_
          refine lv_istore (lv' := [(4, .int (iI (0))), (3, .int (iI (0))), (2, .int (iI ((-1)))), (1, .int (iI (bs))), (0, .ref (mo))]) C.1 C.2.1 dX2_planOne_100 hl (by decide) rfl (fun ls hl => ?_)
          have loop_7 : ∀ (n_8 : Nat) (b : Int) (on : Int) (least : Int), (0 ≤ b ∧ b ≤ M.1 1 ∧ -1 ≤ on ∧ on < b ∧ -60000 ≤ least ∧ least ≤ 60000) ∧ lp (mOnF M bs) b (M.1 1) (on, least) = mOn M bs → M.1 1 - b < (n_8 : Int) → ∀ (H : Heap) (locs : List Loc) (ls : Array Slot), tl_S X s σ H locs → lv_has ls 7 [(4, .int (iI (b))), (3, .int (iI (least))), (2, .int (iI (on))), (1, .int (iI (bs))), (0, .ref (mo))] → W p l e (tl_rm 5 (0) (0)) s m ([.ref (mo)] : List Value).toArray below meth c H locs (0) (0) (MQ below (tl_Qi X (fun r σ' => r = iI (mPlanOne M).1 ∧ MD X σ' mo ad (mPlanOne M).2 ∧ mFr σ σ')) ([.ref (mo)] : List Value).toArray s (0) (0) (tl_A X)) (F0 m 102 ls []) := by
            intro n_8
            induction n_8 with
            | zero => intro b on least hinv hms; omega
            | succ n_8 ih_9 =>
              intro b on least hinv hms_10  H locs ls hS hl
              obtain ⟨hv2, hR2⟩ := hinv
              refine lv_iload C.1 C.2.1 dX2_planOne_102 (lv_at hl 0 rfl) ?_
              refine lv_aload_n C.1 C.2.1 dX2_planOne_104 rfl (lv_at hl 4 rfl) ?_
              refine gf_X2_39_8 C hS hm rfl dX2_planOne_105 ?_
              refine ti_icmp_ge (tgt := 174) C.1 C.2.1 dX2_planOne_108 (by decide) ⟨by omega, by omega⟩ ⟨by omega, by omega⟩ (fun hc_11 => ?_) (fun hc_11 => ?_)
              · skip
                have hon2 := lp_ex hR2 (by omega)
                have hoo := mOn_ok (M := M) (p := bs) (by omega) (by rw [hbs]; omega)
                have hon : on = (mOn M bs).1 := by rw [← hon2]
                rw [← hon] at hoo
                have hlf := mCan_left (M := M) (p := bs) (by rw [hbs]; omega)
                have hwl := hWn (4 * bs + 3)
                have h66 := h6 bs (by omega) (by omega) (by omega)
                refine lv_aload_n C.1 C.2.1 dX2_planOne_174 rfl (lv_at hl 4 rfl) ?_
                refine lv_iload_n C.1 C.2.1 dX2_planOne_175 rfl (lv_at hl 3 rfl) ?_
                refine lv_iload_n C.1 C.2.1 dX2_planOne_176 rfl (lv_at hl 2 rfl) ?_
                refine lv_aload_n C.1 C.2.1 dX2_planOne_177 rfl (lv_at hl 4 rfl) ?_
                refine lv_iload_n C.1 C.2.1 dX2_planOne_178 rfl (lv_at hl 3 rfl) ?_
                refine lv_iload_n C.1 C.2.1 dX2_planOne_179 rfl (lv_at hl 2 rfl) ?_
                have hbe := mEarliest_bd (M := M) (p := bs) (b := on)
                refine tl_ci (t_V (n := 2) (ci := 8) C hml hS (m2_earliestOn l X σ mo ad M hM hI (bs) (on) (by omega)) q1883 q1885 qs36 q53 q1886 (by decide +kernel) hm rfl rfl hl.1 rfl (Nat.le_of_ble_eq_true rfl) dX2_planOne_180 ⟨Nat.le_of_ble_eq_true rfl, Nat.le_of_ble_eq_true rfl⟩ ⟨Nat.le_refl _, Nat.le_refl _⟩) hS (fun r_12 σ_14 H locs hP_13 hS => ?_)
                obtain ⟨rfl, rfl⟩ := hP_13
                refine lv_aload_n C.1 C.2.1 dX2_planOne_183 rfl (lv_at hl 4 rfl) ?_
                refine lv_iload_n C.1 C.2.1 dX2_planOne_184 rfl (lv_at hl 3 rfl) ?_
                refine ti_const C.1 C.2.1 dX2_planOne_185 ?_
                have hb_15 := hWn ((4 * bs) + 0)
                refine tl_ci (t_V (n := 2) (ci := 8) C hml hS (m2_want l X σ mo ad M hM hI (bs) (0) (by omega)) q1817 q1819 qs28 q53 q1820 (by decide +kernel) hm rfl rfl hl.1 rfl (Nat.le_of_ble_eq_true rfl) dX2_planOne_186 ⟨Nat.le_of_ble_eq_true rfl, Nat.le_of_ble_eq_true rfl⟩ ⟨Nat.le_refl _, Nat.le_refl _⟩) hS (fun r_16 σ_18 H locs hP_17 hS => ?_)
                obtain ⟨rfl, rfl⟩ := hP_17
                refine ti_const C.1 C.2.1 dX2_planOne_189 ?_
                refine tl_cv (t_V (n := 5) (ci := 8) C hml hS (m2_add l X σ mo ad M ⟨hm, h0, h1, h2, h3, h4, h5, hd⟩ (bs) (on) ((mEarliest M bs on)) ((M.2 2 ((4 * bs) + 0))) (0) (by omega) (by omega)) q1891 q1893 qs37 q53 q1894 (by decide +kernel) hm rfl rfl hl.1 rfl (Nat.le_of_ble_eq_true rfl) dX2_planOne_190 ⟨Nat.le_of_ble_eq_true rfl, Nat.le_of_ble_eq_true rfl⟩ ⟨Nat.le_refl _, Nat.le_refl _⟩) hS (fun σ_21 H locs hP_20 hS => ?_)
                obtain ⟨hM_22, hfr9⟩ := hP_20
                have hfr := hfr.trans hfr9
                obtain ⟨hm_23, hm_24, hm_25, hm_26, hm_27, hm_28, hm_29, hd⟩ := id hM_22
                refine lv_aload_n C.1 C.2.1 dX2_planOne_193 rfl (lv_at hl 4 rfl) ?_
                refine lv_iload_n C.1 C.2.1 dX2_planOne_194 rfl (lv_at hl 3 rfl) ?_
                refine tl_ci (t_V (n := 1) (ci := 8) C hml hS (m2_lessLeft l X σ_21 mo ad (mAdd M (bs) (on) ((mEarliest M bs on)) ((M.2 2 ((4 * bs) + 0))) (0)) ⟨hm_23, hm_24, hm_25, hm_26, hm_27, hm_28, hm_29, hd⟩ (bs) (by omega)) q1895 q1897 qs38 q53 q1898 (by decide +kernel) hm_23 rfl rfl hl.1 rfl (Nat.le_of_ble_eq_true rfl) dX2_planOne_195 ⟨Nat.le_of_ble_eq_true rfl, Nat.le_of_ble_eq_true rfl⟩ ⟨Nat.le_refl _, Nat.le_refl _⟩) hS (fun r_30 σ_32 H locs hP_31 hS => ?_)
                obtain ⟨rfl, hM_33, hfr9⟩ := hP_31
                have hfr := hfr.trans hfr9
                obtain ⟨hm_34, hm_35, hm_36, hm_37, hm_38, hm_39, hm_40, hd⟩ := id hM_33
                show W _ _ _ _ _ _ _ _ _ _ _ _ _ _ _ (F0 _ _ _ (.int (iI (M.2 2 (4 * bs + 3) - 1)) :: _))
                refine ti_if_lt (tgt := 205) C.1 C.2.1 dX2_planOne_198 (by decide) ⟨by omega, by omega⟩ (fun hc_41 => ?_) (fun hc_41 => ?_)
                · skip
                  refine ti_const C.1 C.2.1 dX2_planOne_205 ?_
                  exact r_z (z := 0) C hr hlk hS (by first | exact tb01 _ | omega | decide) (by exfalso; omega) dX2_planOne_206
                · skip
                  refine ti_const C.1 C.2.1 dX2_planOne_201 ?_
                  refine lv_goto (tgt := 206) C.1 C.2.1 dX2_planOne_202 (by decide) ?_
                  exact r_z (z := 1) C hr hlk hS (by first | exact tb01 _ | omega | decide) (by rw [show mPlanOne M = (1, (mLess (mAdd M (bs) (on) ((mEarliest M bs on)) ((M.2 2 ((4 * bs) + 0))) (0)) (bs))) from by (unfold mPlanOne; rw [if_neg (by omega), ← hbs, ← hon])]; exact ⟨rfl, ⟨hm_34, hm_35, hm_36, hm_37, hm_38, hm_39, hm_40, hd⟩, hfr⟩) dX2_planOne_206
              · skip
                refine lv_aload_n C.1 C.2.1 dX2_planOne_111 rfl (lv_at hl 4 rfl) ?_
                refine lv_iload_n C.1 C.2.1 dX2_planOne_112 rfl (lv_at hl 3 rfl) ?_
                refine lv_iload C.1 C.2.1 dX2_planOne_113 (lv_at hl 0 rfl) ?_
                have hbe := mEarliest_bd (M := M) (p := bs) (b := b)
                refine tl_ci (t_V (n := 2) (ci := 8) C hml hS (m2_earliestOn l X σ mo ad M hM hI (bs) (b) (by omega)) q1883 q1885 qs36 q53 q1886 (by decide +kernel) hm rfl rfl hl.1 rfl (Nat.le_of_ble_eq_true rfl) dX2_planOne_115 ⟨Nat.le_of_ble_eq_true rfl, Nat.le_of_ble_eq_true rfl⟩ ⟨Nat.le_refl _, Nat.le_refl _⟩) hS (fun r_42 σ_44 H locs hP_43 hS => ?_)
                obtain ⟨rfl, rfl⟩ := hP_43
                refine lv_istore (lv' := [(5, .int (iI ((mEarliest M bs b)))), (4, .int (iI (b))), (3, .int (iI (least))), (2, .int (iI (on))), (1, .int (iI (bs))), (0, .ref (mo))]) C.1 C.2.1 dX2_planOne_118 hl (by decide) rfl (fun ls hl => ?_)
                refine lv_iload C.1 C.2.1 dX2_planOne_120 (lv_at hl 0 rfl) ?_
                refine ti_const C.1 C.2.1 dX2_planOne_122 ?_
                refine ti_icmp_ne (tgt := 129) C.1 C.2.1 dX2_planOne_123 (by decide) ⟨by omega, by omega⟩ ⟨by decide, by decide⟩ (fun hc_45 => ?_) (fun hc_45 => ?_)
                · skip
                  refine lv_aload_n C.1 C.2.1 dX2_planOne_129 rfl (lv_at hl 5 rfl) ?_
                  refine lv_iload C.1 C.2.1 dX2_planOne_130 (lv_at hl 1 rfl) ?_
                  refine lv_iload C.1 C.2.1 dX2_planOne_132 (lv_at hl 0 rfl) ?_
                  have hbt := mRoomTo_bd hI b (mEarliest M bs b)
                  refine tl_ci (t_V (n := 2) (ci := 8) C hml hS (m2_roomTo l X σ mo ad M hM hI (b) ((mEarliest M bs b)) (by omega)) q1919 q1921 qs41 q53 q1922 (by decide +kernel) hm rfl rfl hl.1 rfl (Nat.le_of_ble_eq_true rfl) dX2_planOne_134 ⟨Nat.le_of_ble_eq_true rfl, Nat.le_of_ble_eq_true rfl⟩ ⟨Nat.le_refl _, Nat.le_refl _⟩) hS (fun r_46 σ_48 H locs hP_47 hS => ?_)
                  obtain ⟨rfl, rfl⟩ := hP_47
                  refine lv_aload_n C.1 C.2.1 dX2_planOne_137 rfl (lv_at hl 5 rfl) ?_
                  refine lv_iload C.1 C.2.1 dX2_planOne_138 (lv_at hl 1 rfl) ?_
                  refine lv_iload C.1 C.2.1 dX2_planOne_140 (lv_at hl 0 rfl) ?_
                  have hbf := mRoomFrom_bd hI b (mEarliest M bs b)
                  refine tl_ci (t_V (n := 2) (ci := 8) C hml hS (m2_roomFrom l X σ mo ad M hM hI (b) ((mEarliest M bs b)) (by omega)) q1923 q1925 qs42 q53 q1926 (by decide +kernel) hm rfl rfl hl.1 rfl (Nat.le_of_ble_eq_true rfl) dX2_planOne_142 ⟨Nat.le_of_ble_eq_true rfl, Nat.le_of_ble_eq_true rfl⟩ ⟨Nat.le_refl _, Nat.le_refl _⟩) hS (fun r_49 σ_51 H locs hP_50 hS => ?_)
                  obtain ⟨rfl, rfl⟩ := hP_50
                  refine ti_isub C.1 C.2.1 dX2_planOne_145 ?_
                  refine lv_istore (lv' := [(6, .int (iI (((mRoomTo M b (mEarliest M bs b)) - (mRoomFrom M b (mEarliest M bs b)))))), (5, .int (iI ((mEarliest M bs b)))), (4, .int (iI (b))), (3, .int (iI (least))), (2, .int (iI (on))), (1, .int (iI (bs))), (0, .ref (mo))]) C.1 C.2.1 dX2_planOne_146 hl (by decide) rfl (fun ls hl => ?_)
                  refine lv_iload_n C.1 C.2.1 dX2_planOne_148 rfl (lv_at hl 4 rfl) ?_
                  refine ti_const C.1 C.2.1 dX2_planOne_149 ?_
                  refine ti_icmp_eq (tgt := 162) C.1 C.2.1 dX2_planOne_150 (by decide) ⟨by omega, by omega⟩ ⟨by decide, by decide⟩ (fun hc_52 => ?_) (fun hc_52 => ?_)
                  · skip
                    refine lv_iload C.1 C.2.1 dX2_planOne_162 (lv_at hl 2 rfl) ?_
                    refine lv_istore_n (lv' := [(2, .int (iI (b))), (6, .int (iI (((mRoomTo M b (mEarliest M bs b)) - (mRoomFrom M b (mEarliest M bs b)))))), (5, .int (iI ((mEarliest M bs b)))), (4, .int (iI (b))), (3, .int (iI (least))), (1, .int (iI (bs))), (0, .ref (mo))]) C.1 C.2.1 dX2_planOne_164 rfl hl (by decide) rfl (fun ls hl => ?_)
                    refine lv_iload C.1 C.2.1 dX2_planOne_165 (lv_at hl 1 rfl) ?_
                    refine lv_istore_n (lv' := [(3, .int (iI (((mRoomTo M b (mEarliest M bs b)) - (mRoomFrom M b (mEarliest M bs b)))))), (2, .int (iI (b))), (6, .int (iI (((mRoomTo M b (mEarliest M bs b)) - (mRoomFrom M b (mEarliest M bs b)))))), (5, .int (iI ((mEarliest M bs b)))), (4, .int (iI (b))), (1, .int (iI (bs))), (0, .ref (mo))]) C.1 C.2.1 dX2_planOne_167 rfl hl (by decide) rfl (fun ls hl => ?_)
                    refine ti_iinc (lv' := [(4, .int (iI ((b + 1)))), (3, .int (iI (((mRoomTo M b (mEarliest M bs b)) - (mRoomFrom M b (mEarliest M bs b)))))), (2, .int (iI (b))), (6, .int (iI (((mRoomTo M b (mEarliest M bs b)) - (mRoomFrom M b (mEarliest M bs b)))))), (5, .int (iI ((mEarliest M bs b)))), (1, .int (iI (bs))), (0, .ref (mo))]) C.1 C.2.1 dX2_planOne_168 hl (k := 4) rfl (by decide) rfl (fun ls hl => ?_)
                    refine lv_goto (tgt := 102) C.1 C.2.1 dX2_planOne_171 (by decide) ?_
                    exact ih_9 ((b + 1)) (b) (((mRoomTo M b (mEarliest M bs b)) - (mRoomFrom M b (mEarliest M bs b)))) ⟨by omega, lp_bk hR2 (by omega) (by unfold mOnF; (repeat (first | rw [if_pos (by first | omega | (dsimp only; omega))] | rw [if_neg (by first | omega | (dsimp only; omega))])))⟩ (by omega) _ _ _ hS (lv_sub hl [0, 1, 2, 5, 6] rfl)
                  · skip
                    refine lv_iload C.1 C.2.1 dX2_planOne_153 (lv_at hl 0 rfl) ?_
                    refine lv_iload_n C.1 C.2.1 dX2_planOne_155 rfl (lv_at hl 3 rfl) ?_
                    refine ti_icmp_lt (tgt := 162) C.1 C.2.1 dX2_planOne_156 (by decide) ⟨by omega, by omega⟩ ⟨by omega, by omega⟩ (fun hc_53 => ?_) (fun hc_53 => ?_)
                    · skip
                      refine lv_iload C.1 C.2.1 dX2_planOne_162 (lv_at hl 2 rfl) ?_
                      refine lv_istore_n (lv' := [(2, .int (iI (b))), (6, .int (iI (((mRoomTo M b (mEarliest M bs b)) - (mRoomFrom M b (mEarliest M bs b)))))), (5, .int (iI ((mEarliest M bs b)))), (4, .int (iI (b))), (3, .int (iI (least))), (1, .int (iI (bs))), (0, .ref (mo))]) C.1 C.2.1 dX2_planOne_164 rfl hl (by decide) rfl (fun ls hl => ?_)
                      refine lv_iload C.1 C.2.1 dX2_planOne_165 (lv_at hl 1 rfl) ?_
                      refine lv_istore_n (lv' := [(3, .int (iI (((mRoomTo M b (mEarliest M bs b)) - (mRoomFrom M b (mEarliest M bs b)))))), (2, .int (iI (b))), (6, .int (iI (((mRoomTo M b (mEarliest M bs b)) - (mRoomFrom M b (mEarliest M bs b)))))), (5, .int (iI ((mEarliest M bs b)))), (4, .int (iI (b))), (1, .int (iI (bs))), (0, .ref (mo))]) C.1 C.2.1 dX2_planOne_167 rfl hl (by decide) rfl (fun ls hl => ?_)
                      refine ti_iinc (lv' := [(4, .int (iI ((b + 1)))), (3, .int (iI (((mRoomTo M b (mEarliest M bs b)) - (mRoomFrom M b (mEarliest M bs b)))))), (2, .int (iI (b))), (6, .int (iI (((mRoomTo M b (mEarliest M bs b)) - (mRoomFrom M b (mEarliest M bs b)))))), (5, .int (iI ((mEarliest M bs b)))), (1, .int (iI (bs))), (0, .ref (mo))]) C.1 C.2.1 dX2_planOne_168 hl (k := 4) rfl (by decide) rfl (fun ls hl => ?_)
                      refine lv_goto (tgt := 102) C.1 C.2.1 dX2_planOne_171 (by decide) ?_
                      exact ih_9 ((b + 1)) (b) (((mRoomTo M b (mEarliest M bs b)) - (mRoomFrom M b (mEarliest M bs b)))) ⟨by omega, lp_bk hR2 (by omega) (by unfold mOnF; (repeat (first | rw [if_pos (by first | omega | (dsimp only; omega))] | rw [if_neg (by first | omega | (dsimp only; omega))])))⟩ (by omega) _ _ _ hS (lv_sub hl [0, 1, 2, 5, 6] rfl)
                    · skip
                      refine lv_goto (tgt := 168) C.1 C.2.1 dX2_planOne_159 (by decide) ?_
                      refine ti_iinc (lv' := [(4, .int (iI ((b + 1)))), (6, .int (iI (((mRoomTo M b (mEarliest M bs b)) - (mRoomFrom M b (mEarliest M bs b)))))), (5, .int (iI ((mEarliest M bs b)))), (3, .int (iI (least))), (2, .int (iI (on))), (1, .int (iI (bs))), (0, .ref (mo))]) C.1 C.2.1 dX2_planOne_168 hl (k := 2) rfl (by decide) rfl (fun ls hl => ?_)
                      refine lv_goto (tgt := 102) C.1 C.2.1 dX2_planOne_171 (by decide) ?_
                      exact ih_9 ((b + 1)) (on) (least) ⟨by omega, lp_bk hR2 (by omega) (by unfold mOnF; (repeat (first | rw [if_pos (by first | omega | (dsimp only; omega))] | rw [if_neg (by first | omega | (dsimp only; omega))])))⟩ (by omega) _ _ _ hS (lv_sub hl [0, 3, 4, 5, 6] rfl)
                · skip
                  refine lv_goto (tgt := 168) C.1 C.2.1 dX2_planOne_126 (by decide) ?_
                  refine ti_iinc (lv' := [(4, .int (iI ((b + 1)))), (5, .int (iI ((mEarliest M bs b)))), (3, .int (iI (least))), (2, .int (iI (on))), (1, .int (iI (bs))), (0, .ref (mo))]) C.1 C.2.1 dX2_planOne_168 hl (k := 1) rfl (by decide) rfl (fun ls hl => ?_)
                  refine lv_goto (tgt := 102) C.1 C.2.1 dX2_planOne_171 (by decide) ?_
                  exact ih_9 ((b + 1)) (on) (least) ⟨by omega, lp_bk hR2 (by omega) (by unfold mOnF; (repeat (first | rw [if_pos (by first | omega | (dsimp only; omega))] | rw [if_neg (by first | omega | (dsimp only; omega))])))⟩ (by omega) _ _ _ hS (lv_sub hl [0, 2, 3, 4, 5] rfl)
          exact loop_7 (((M.1 1 - (0) : Int)).toNat + 1) (0) ((-1)) (0) ⟨by omega, rfl⟩ (by omega) _ _ _ hS (lv_sub hl [0, 1, 2, 3, 4] rfl)
        · skip
          refine ti_const C.1 C.2.1 dX2_planOne_93 ?_
          exact r_z (z := 0) C hr hlk hS (by first | exact tb01 _ | omega | decide) (by rw [show mPlanOne M = (0, M) from by unfold mPlanOne; rw [if_pos (by omega)]]; exact ⟨rfl, ⟨hm, h0, h1, h2, h3, h4, h5, hd⟩, hfr⟩) dX2_planOne_94
      · skip
        refine ti_const C.1 C.2.1 dX2_planOne_12 ?_
        refine lv_istore_n (lv' := [(3, .int (iI (0))), (2, .int (iI (pt))), (1, .int (iI (bs))), (0, .ref (mo))]) C.1 C.2.1 dX2_planOne_13 rfl hl (by decide) rfl (fun ls hl => ?_)
        refine ti_const C.1 C.2.1 dX2_planOne_14 ?_
        refine lv_istore (lv' := [(4, .int (iI (0))), (3, .int (iI (0))), (2, .int (iI (pt))), (1, .int (iI (bs))), (0, .ref (mo))]) C.1 C.2.1 dX2_planOne_15 hl (by decide) rfl (fun ls hl => ?_)
        have loop_54 : ∀ (n_55 : Nat) (b : Int) (can : Int), (0 ≤ b ∧ b ≤ M.1 1 ∧ (can = 0 ∨ can = 1)) ∧ (0 < M.2 2 (4 * pt + 3) → lp (mCanF M pt) b (M.1 1) can = mCan M pt) ∧ (M.2 2 (4 * pt + 3) ≤ 0 → can = mCan M pt) → M.1 1 - b < (n_55 : Int) → ∀ (H : Heap) (locs : List Loc) (ls : Array Slot), tl_S X s σ H locs → lv_has ls 7 [(4, .int (iI (b))), (3, .int (iI (can))), (2, .int (iI (pt))), (1, .int (iI (bs))), (0, .ref (mo))] → W p l e (tl_rm 5 (0) (0)) s m ([.ref (mo)] : List Value).toArray below meth c H locs (0) (0) (MQ below (tl_Qi X (fun r σ' => r = iI (mPlanOne M).1 ∧ MD X σ' mo ad (mPlanOne M).2 ∧ mFr σ σ')) ([.ref (mo)] : List Value).toArray s (0) (0) (tl_A X)) (F0 m 17 ls []) := by
          intro n_55
          induction n_55 with
          | zero => intro b can hinv hms; omega
          | succ n_55 ih_56 =>
            intro b can hinv hms_57  H locs ls hS hl
            obtain ⟨hw, hC1, hC2⟩ := hinv
            refine lv_iload C.1 C.2.1 dX2_planOne_17 (lv_at hl 0 rfl) ?_
            refine lv_aload_n C.1 C.2.1 dX2_planOne_19 rfl (lv_at hl 4 rfl) ?_
            refine gf_X2_39_8 C hS hm rfl dX2_planOne_20 ?_
            refine ti_icmp_ge (tgt := 62) C.1 C.2.1 dX2_planOne_23 (by decide) ⟨by omega, by omega⟩ ⟨by omega, by omega⟩ (fun hc_58 => ?_) (fun hc_58 => ?_)
            · skip
              have hcan : can = mCan M pt := by
                by_cases hl9 : 0 < M.2 2 (4 * pt + 3)
                · rcases hw.2.2 with z | z
                  · subst z; exact lp_ex (hC1 hl9) (by omega)
                  · subst z; rw [← hC1 hl9]; exact mCan_abs.symm
                · exact hC2 (by omega)
              refine lv_iload_n C.1 C.2.1 dX2_planOne_62 rfl (lv_at hl 1 rfl) ?_
              refine ti_if_eq (tgt := 82) C.1 C.2.1 dX2_planOne_63 (by decide) ⟨by omega, by omega⟩ (fun hc_59 => ?_) (fun hc_59 => ?_)
              · skip
                refine ti_iinc (lv' := [(2, .int (iI ((pt + 1)))), (4, .int (iI (b))), (3, .int (iI (can))), (1, .int (iI (bs))), (0, .ref (mo))]) C.1 C.2.1 dX2_planOne_82 hl (k := 2) rfl (by decide) rfl (fun ls hl => ?_)
                refine lv_goto (tgt := 4) C.1 C.2.1 dX2_planOne_85 (by decide) ?_
                exact ih_3 ((pt + 1)) (bs) ⟨by omega, lp_bk hR (by omega) (by unfold mBestF; split <;> omega)⟩ (by omega) _ _ _ hS (lv_sub hl [0, 3, 4] rfl)
              · skip
                refine lv_iload_n C.1 C.2.1 dX2_planOne_66 rfl (lv_at hl 3 rfl) ?_
                refine ti_const C.1 C.2.1 dX2_planOne_67 ?_
                refine ti_icmp_eq (tgt := 80) C.1 C.2.1 dX2_planOne_68 (by decide) ⟨by omega, by omega⟩ ⟨by decide, by decide⟩ (fun hc_60 => ?_) (fun hc_60 => ?_)
                · skip
                  refine lv_iload_n C.1 C.2.1 dX2_planOne_80 rfl (lv_at hl 2 rfl) ?_
                  refine lv_istore_n (lv' := [(1, .int (iI (pt))), (4, .int (iI (b))), (3, .int (iI (can))), (2, .int (iI (pt))), (0, .ref (mo))]) C.1 C.2.1 dX2_planOne_81 rfl hl (by decide) rfl (fun ls hl => ?_)
                  refine ti_iinc (lv' := [(2, .int (iI ((pt + 1)))), (1, .int (iI (pt))), (4, .int (iI (b))), (3, .int (iI (can))), (0, .ref (mo))]) C.1 C.2.1 dX2_planOne_82 hl (k := 3) rfl (by decide) rfl (fun ls hl => ?_)
                  refine lv_goto (tgt := 4) C.1 C.2.1 dX2_planOne_85 (by decide) ?_
                  exact ih_3 ((pt + 1)) (pt) ⟨by omega, lp_bk hR (by omega) (by unfold mBestF; split <;> omega)⟩ (by omega) _ _ _ hS (lv_sub hl [0, 1, 4] rfl)
                · skip
                  refine lv_aload_n C.1 C.2.1 dX2_planOne_71 rfl (lv_at hl 4 rfl) ?_
                  refine lv_iload_n C.1 C.2.1 dX2_planOne_72 rfl (lv_at hl 2 rfl) ?_
                  refine lv_iload_n C.1 C.2.1 dX2_planOne_73 rfl (lv_at hl 3 rfl) ?_
                  refine tl_ci (t_V (n := 2) (ci := 8) C hml hS (m2_isAhead l X σ mo ad M hM hI (pt) (bs) (by omega)) q1915 q1917 qs40 q53 q1918 (by decide +kernel) hm rfl rfl hl.1 rfl (Nat.le_of_ble_eq_true rfl) dX2_planOne_74 ⟨Nat.le_of_ble_eq_true rfl, Nat.le_of_ble_eq_true rfl⟩ ⟨Nat.le_refl _, Nat.le_refl _⟩) hS (fun r_61 σ_63 H locs hP_62 hS => ?_)
                  obtain ⟨rfl, rfl⟩ := hP_62
                  refine ti_tb_eq (tgt := 82) C.1 C.2.1 dX2_planOne_77 (by decide) (fun hc_64 => ?_) (fun hc_64 => ?_)
                  · skip
                    refine ti_iinc (lv' := [(2, .int (iI ((pt + 1)))), (4, .int (iI (b))), (3, .int (iI (can))), (1, .int (iI (bs))), (0, .ref (mo))]) C.1 C.2.1 dX2_planOne_82 hl (k := 2) rfl (by decide) rfl (fun ls hl => ?_)
                    refine lv_goto (tgt := 4) C.1 C.2.1 dX2_planOne_85 (by decide) ?_
                    exact ih_3 ((pt + 1)) (bs) ⟨by omega, lp_bk hR (by omega) (by unfold mBestF; split <;> omega)⟩ (by omega) _ _ _ hS (lv_sub hl [0, 3, 4] rfl)
                  · skip
                    refine lv_iload_n C.1 C.2.1 dX2_planOne_80 rfl (lv_at hl 2 rfl) ?_
                    refine lv_istore_n (lv' := [(1, .int (iI (pt))), (4, .int (iI (b))), (3, .int (iI (can))), (2, .int (iI (pt))), (0, .ref (mo))]) C.1 C.2.1 dX2_planOne_81 rfl hl (by decide) rfl (fun ls hl => ?_)
                    refine ti_iinc (lv' := [(2, .int (iI ((pt + 1)))), (1, .int (iI (pt))), (4, .int (iI (b))), (3, .int (iI (can))), (0, .ref (mo))]) C.1 C.2.1 dX2_planOne_82 hl (k := 3) rfl (by decide) rfl (fun ls hl => ?_)
                    refine lv_goto (tgt := 4) C.1 C.2.1 dX2_planOne_85 (by decide) ?_
                    exact ih_3 ((pt + 1)) (pt) ⟨by omega, lp_bk hR (by omega) (by unfold mBestF; split <;> omega)⟩ (by omega) _ _ _ hS (lv_sub hl [0, 1, 4] rfl)
            · skip
              refine lv_aload_n C.1 C.2.1 dX2_planOne_26 rfl (lv_at hl 4 rfl) ?_
              refine lv_iload_n C.1 C.2.1 dX2_planOne_27 rfl (lv_at hl 2 rfl) ?_
              refine ti_const C.1 C.2.1 dX2_planOne_28 ?_
              have hb_65 := hWn ((4 * pt) + 3)
              refine tl_ci (t_V (n := 2) (ci := 8) C hml hS (m2_want l X σ mo ad M hM hI (pt) (3) (by omega)) q1817 q1819 qs28 q53 q1820 (by decide +kernel) hm rfl rfl hl.1 rfl (Nat.le_of_ble_eq_true rfl) dX2_planOne_29 ⟨Nat.le_of_ble_eq_true rfl, Nat.le_of_ble_eq_true rfl⟩ ⟨Nat.le_refl _, Nat.le_refl _⟩) hS (fun r_66 σ_68 H locs hP_67 hS => ?_)
              obtain ⟨rfl, rfl⟩ := hP_67
              refine ti_if_le (tgt := 62) C.1 C.2.1 dX2_planOne_32 (by decide) ⟨by omega, by omega⟩ (fun hc_69 => ?_) (fun hc_69 => ?_)
              · skip
                have hcan : can = mCan M pt := by
                  by_cases hl9 : 0 < M.2 2 (4 * pt + 3)
                  · rcases hw.2.2 with z | z
                    · subst z; exact lp_ex (hC1 hl9) (by omega)
                    · subst z; rw [← hC1 hl9]; exact mCan_abs.symm
                  · exact hC2 (by omega)
                refine lv_iload_n C.1 C.2.1 dX2_planOne_62 rfl (lv_at hl 1 rfl) ?_
                refine ti_if_eq (tgt := 82) C.1 C.2.1 dX2_planOne_63 (by decide) ⟨by omega, by omega⟩ (fun hc_70 => ?_) (fun hc_70 => ?_)
                · skip
                  refine ti_iinc (lv' := [(2, .int (iI ((pt + 1)))), (4, .int (iI (b))), (3, .int (iI (can))), (1, .int (iI (bs))), (0, .ref (mo))]) C.1 C.2.1 dX2_planOne_82 hl (k := 2) rfl (by decide) rfl (fun ls hl => ?_)
                  refine lv_goto (tgt := 4) C.1 C.2.1 dX2_planOne_85 (by decide) ?_
                  exact ih_3 ((pt + 1)) (bs) ⟨by omega, lp_bk hR (by omega) (by unfold mBestF; split <;> omega)⟩ (by omega) _ _ _ hS (lv_sub hl [0, 3, 4] rfl)
                · skip
                  refine lv_iload_n C.1 C.2.1 dX2_planOne_66 rfl (lv_at hl 3 rfl) ?_
                  refine ti_const C.1 C.2.1 dX2_planOne_67 ?_
                  refine ti_icmp_eq (tgt := 80) C.1 C.2.1 dX2_planOne_68 (by decide) ⟨by omega, by omega⟩ ⟨by decide, by decide⟩ (fun hc_71 => ?_) (fun hc_71 => ?_)
                  · skip
                    refine lv_iload_n C.1 C.2.1 dX2_planOne_80 rfl (lv_at hl 2 rfl) ?_
                    refine lv_istore_n (lv' := [(1, .int (iI (pt))), (4, .int (iI (b))), (3, .int (iI (can))), (2, .int (iI (pt))), (0, .ref (mo))]) C.1 C.2.1 dX2_planOne_81 rfl hl (by decide) rfl (fun ls hl => ?_)
                    refine ti_iinc (lv' := [(2, .int (iI ((pt + 1)))), (1, .int (iI (pt))), (4, .int (iI (b))), (3, .int (iI (can))), (0, .ref (mo))]) C.1 C.2.1 dX2_planOne_82 hl (k := 3) rfl (by decide) rfl (fun ls hl => ?_)
                    refine lv_goto (tgt := 4) C.1 C.2.1 dX2_planOne_85 (by decide) ?_
                    exact ih_3 ((pt + 1)) (pt) ⟨by omega, lp_bk hR (by omega) (by unfold mBestF; split <;> omega)⟩ (by omega) _ _ _ hS (lv_sub hl [0, 1, 4] rfl)
                  · skip
                    refine lv_aload_n C.1 C.2.1 dX2_planOne_71 rfl (lv_at hl 4 rfl) ?_
                    refine lv_iload_n C.1 C.2.1 dX2_planOne_72 rfl (lv_at hl 2 rfl) ?_
                    refine lv_iload_n C.1 C.2.1 dX2_planOne_73 rfl (lv_at hl 3 rfl) ?_
                    refine tl_ci (t_V (n := 2) (ci := 8) C hml hS (m2_isAhead l X σ mo ad M hM hI (pt) (bs) (by omega)) q1915 q1917 qs40 q53 q1918 (by decide +kernel) hm rfl rfl hl.1 rfl (Nat.le_of_ble_eq_true rfl) dX2_planOne_74 ⟨Nat.le_of_ble_eq_true rfl, Nat.le_of_ble_eq_true rfl⟩ ⟨Nat.le_refl _, Nat.le_refl _⟩) hS (fun r_72 σ_74 H locs hP_73 hS => ?_)
                    obtain ⟨rfl, rfl⟩ := hP_73
                    refine ti_tb_eq (tgt := 82) C.1 C.2.1 dX2_planOne_77 (by decide) (fun hc_75 => ?_) (fun hc_75 => ?_)
                    · skip
                      refine ti_iinc (lv' := [(2, .int (iI ((pt + 1)))), (4, .int (iI (b))), (3, .int (iI (can))), (1, .int (iI (bs))), (0, .ref (mo))]) C.1 C.2.1 dX2_planOne_82 hl (k := 2) rfl (by decide) rfl (fun ls hl => ?_)
                      refine lv_goto (tgt := 4) C.1 C.2.1 dX2_planOne_85 (by decide) ?_
                      exact ih_3 ((pt + 1)) (bs) ⟨by omega, lp_bk hR (by omega) (by unfold mBestF; split <;> omega)⟩ (by omega) _ _ _ hS (lv_sub hl [0, 3, 4] rfl)
                    · skip
                      refine lv_iload_n C.1 C.2.1 dX2_planOne_80 rfl (lv_at hl 2 rfl) ?_
                      refine lv_istore_n (lv' := [(1, .int (iI (pt))), (4, .int (iI (b))), (3, .int (iI (can))), (2, .int (iI (pt))), (0, .ref (mo))]) C.1 C.2.1 dX2_planOne_81 rfl hl (by decide) rfl (fun ls hl => ?_)
                      refine ti_iinc (lv' := [(2, .int (iI ((pt + 1)))), (1, .int (iI (pt))), (4, .int (iI (b))), (3, .int (iI (can))), (0, .ref (mo))]) C.1 C.2.1 dX2_planOne_82 hl (k := 3) rfl (by decide) rfl (fun ls hl => ?_)
                      refine lv_goto (tgt := 4) C.1 C.2.1 dX2_planOne_85 (by decide) ?_
                      exact ih_3 ((pt + 1)) (pt) ⟨by omega, lp_bk hR (by omega) (by unfold mBestF; split <;> omega)⟩ (by omega) _ _ _ hS (lv_sub hl [0, 1, 4] rfl)
              · skip
                refine lv_iload_n C.1 C.2.1 dX2_planOne_35 rfl (lv_at hl 1 rfl) ?_
                refine ti_if_ne (tgt := 62) C.1 C.2.1 dX2_planOne_36 (by decide) ⟨by omega, by omega⟩ (fun hc_76 => ?_) (fun hc_76 => ?_)
                · skip
                  have hcan : can = mCan M pt := by
                    by_cases hl9 : 0 < M.2 2 (4 * pt + 3)
                    · rcases hw.2.2 with z | z
                      · subst z; exact lp_ex (hC1 hl9) (by omega)
                      · subst z; rw [← hC1 hl9]; exact mCan_abs.symm
                    · exact hC2 (by omega)
                  refine lv_iload_n C.1 C.2.1 dX2_planOne_62 rfl (lv_at hl 1 rfl) ?_
                  refine ti_if_eq (tgt := 82) C.1 C.2.1 dX2_planOne_63 (by decide) ⟨by omega, by omega⟩ (fun hc_77 => ?_) (fun hc_77 => ?_)
                  · skip
                    refine ti_iinc (lv' := [(2, .int (iI ((pt + 1)))), (4, .int (iI (b))), (3, .int (iI (can))), (1, .int (iI (bs))), (0, .ref (mo))]) C.1 C.2.1 dX2_planOne_82 hl (k := 2) rfl (by decide) rfl (fun ls hl => ?_)
                    refine lv_goto (tgt := 4) C.1 C.2.1 dX2_planOne_85 (by decide) ?_
                    exact ih_3 ((pt + 1)) (bs) ⟨by omega, lp_bk hR (by omega) (by unfold mBestF; split <;> omega)⟩ (by omega) _ _ _ hS (lv_sub hl [0, 3, 4] rfl)
                  · skip
                    refine lv_iload_n C.1 C.2.1 dX2_planOne_66 rfl (lv_at hl 3 rfl) ?_
                    refine ti_const C.1 C.2.1 dX2_planOne_67 ?_
                    refine ti_icmp_eq (tgt := 80) C.1 C.2.1 dX2_planOne_68 (by decide) ⟨by omega, by omega⟩ ⟨by decide, by decide⟩ (fun hc_78 => ?_) (fun hc_78 => ?_)
                    · skip
                      refine lv_iload_n C.1 C.2.1 dX2_planOne_80 rfl (lv_at hl 2 rfl) ?_
                      refine lv_istore_n (lv' := [(1, .int (iI (pt))), (4, .int (iI (b))), (3, .int (iI (can))), (2, .int (iI (pt))), (0, .ref (mo))]) C.1 C.2.1 dX2_planOne_81 rfl hl (by decide) rfl (fun ls hl => ?_)
                      refine ti_iinc (lv' := [(2, .int (iI ((pt + 1)))), (1, .int (iI (pt))), (4, .int (iI (b))), (3, .int (iI (can))), (0, .ref (mo))]) C.1 C.2.1 dX2_planOne_82 hl (k := 3) rfl (by decide) rfl (fun ls hl => ?_)
                      refine lv_goto (tgt := 4) C.1 C.2.1 dX2_planOne_85 (by decide) ?_
                      exact ih_3 ((pt + 1)) (pt) ⟨by omega, lp_bk hR (by omega) (by unfold mBestF; split <;> omega)⟩ (by omega) _ _ _ hS (lv_sub hl [0, 1, 4] rfl)
                    · skip
                      refine lv_aload_n C.1 C.2.1 dX2_planOne_71 rfl (lv_at hl 4 rfl) ?_
                      refine lv_iload_n C.1 C.2.1 dX2_planOne_72 rfl (lv_at hl 2 rfl) ?_
                      refine lv_iload_n C.1 C.2.1 dX2_planOne_73 rfl (lv_at hl 3 rfl) ?_
                      refine tl_ci (t_V (n := 2) (ci := 8) C hml hS (m2_isAhead l X σ mo ad M hM hI (pt) (bs) (by omega)) q1915 q1917 qs40 q53 q1918 (by decide +kernel) hm rfl rfl hl.1 rfl (Nat.le_of_ble_eq_true rfl) dX2_planOne_74 ⟨Nat.le_of_ble_eq_true rfl, Nat.le_of_ble_eq_true rfl⟩ ⟨Nat.le_refl _, Nat.le_refl _⟩) hS (fun r_79 σ_81 H locs hP_80 hS => ?_)
                      obtain ⟨rfl, rfl⟩ := hP_80
                      refine ti_tb_eq (tgt := 82) C.1 C.2.1 dX2_planOne_77 (by decide) (fun hc_82 => ?_) (fun hc_82 => ?_)
                      · skip
                        refine ti_iinc (lv' := [(2, .int (iI ((pt + 1)))), (4, .int (iI (b))), (3, .int (iI (can))), (1, .int (iI (bs))), (0, .ref (mo))]) C.1 C.2.1 dX2_planOne_82 hl (k := 2) rfl (by decide) rfl (fun ls hl => ?_)
                        refine lv_goto (tgt := 4) C.1 C.2.1 dX2_planOne_85 (by decide) ?_
                        exact ih_3 ((pt + 1)) (bs) ⟨by omega, lp_bk hR (by omega) (by unfold mBestF; split <;> omega)⟩ (by omega) _ _ _ hS (lv_sub hl [0, 3, 4] rfl)
                      · skip
                        refine lv_iload_n C.1 C.2.1 dX2_planOne_80 rfl (lv_at hl 2 rfl) ?_
                        refine lv_istore_n (lv' := [(1, .int (iI (pt))), (4, .int (iI (b))), (3, .int (iI (can))), (2, .int (iI (pt))), (0, .ref (mo))]) C.1 C.2.1 dX2_planOne_81 rfl hl (by decide) rfl (fun ls hl => ?_)
                        refine ti_iinc (lv' := [(2, .int (iI ((pt + 1)))), (1, .int (iI (pt))), (4, .int (iI (b))), (3, .int (iI (can))), (0, .ref (mo))]) C.1 C.2.1 dX2_planOne_82 hl (k := 3) rfl (by decide) rfl (fun ls hl => ?_)
                        refine lv_goto (tgt := 4) C.1 C.2.1 dX2_planOne_85 (by decide) ?_
                        exact ih_3 ((pt + 1)) (pt) ⟨by omega, lp_bk hR (by omega) (by unfold mBestF; split <;> omega)⟩ (by omega) _ _ _ hS (lv_sub hl [0, 1, 4] rfl)
                · skip
                  refine lv_aload_n C.1 C.2.1 dX2_planOne_39 rfl (lv_at hl 4 rfl) ?_
                  refine lv_iload_n C.1 C.2.1 dX2_planOne_40 rfl (lv_at hl 2 rfl) ?_
                  refine lv_iload C.1 C.2.1 dX2_planOne_41 (lv_at hl 0 rfl) ?_
                  have hbe := mEarliest_bd (M := M) (p := pt) (b := b)
                  refine tl_ci (t_V (n := 2) (ci := 8) C hml hS (m2_earliestOn l X σ mo ad M hM hI (pt) (b) (by omega)) q1883 q1885 qs36 q53 q1886 (by decide +kernel) hm rfl rfl hl.1 rfl (Nat.le_of_ble_eq_true rfl) dX2_planOne_43 ⟨Nat.le_of_ble_eq_true rfl, Nat.le_of_ble_eq_true rfl⟩ ⟨Nat.le_refl _, Nat.le_refl _⟩) hS (fun r_83 σ_85 H locs hP_84 hS => ?_)
                  obtain ⟨rfl, rfl⟩ := hP_84
                  refine ti_const C.1 C.2.1 dX2_planOne_46 ?_
                  refine ti_icmp_eq (tgt := 54) C.1 C.2.1 dX2_planOne_47 (by decide) ⟨by omega, by omega⟩ ⟨by decide, by decide⟩ (fun hc_86 => ?_) (fun hc_86 => ?_)
                  · skip
                    refine ti_const C.1 C.2.1 dX2_planOne_54 ?_
                    refine lv_istore_n (lv' := [(3, .int (iI (0))), (4, .int (iI (b))), (2, .int (iI (pt))), (1, .int (iI (bs))), (0, .ref (mo))]) C.1 C.2.1 dX2_planOne_55 rfl hl (by decide) rfl (fun ls hl => ?_)
                    refine ti_iinc (lv' := [(4, .int (iI ((b + 1)))), (3, .int (iI (0))), (2, .int (iI (pt))), (1, .int (iI (bs))), (0, .ref (mo))]) C.1 C.2.1 dX2_planOne_56 hl (k := 1) rfl (by decide) rfl (fun ls hl => ?_)
                    refine lv_goto (tgt := 17) C.1 C.2.1 dX2_planOne_59 (by decide) ?_
                    exact ih_56 ((b + 1)) (0) ⟨by omega, fun h => lp_bk (hC1 h) (by omega) (by unfold mCanF; (repeat' split) <;> omega), fun h => by omega⟩ (by omega) _ _ _ hS (lv_sub hl [0, 1, 2, 3, 4] rfl)
                  · skip
                    refine ti_const C.1 C.2.1 dX2_planOne_50 ?_
                    refine lv_goto (tgt := 55) C.1 C.2.1 dX2_planOne_51 (by decide) ?_
                    refine lv_istore_n (lv' := [(3, .int (iI (1))), (4, .int (iI (b))), (2, .int (iI (pt))), (1, .int (iI (bs))), (0, .ref (mo))]) C.1 C.2.1 dX2_planOne_55 rfl hl (by decide) rfl (fun ls hl => ?_)
                    refine ti_iinc (lv' := [(4, .int (iI ((b + 1)))), (3, .int (iI (1))), (2, .int (iI (pt))), (1, .int (iI (bs))), (0, .ref (mo))]) C.1 C.2.1 dX2_planOne_56 hl (k := 1) rfl (by decide) rfl (fun ls hl => ?_)
                    refine lv_goto (tgt := 17) C.1 C.2.1 dX2_planOne_59 (by decide) ?_
                    exact ih_56 ((b + 1)) (1) ⟨by omega, fun h => lp_bk (hC1 h) (by omega) (by unfold mCanF; (repeat' split) <;> omega), fun h => by omega⟩ (by omega) _ _ _ hS (lv_sub hl [0, 1, 2, 3, 4] rfl)
        exact loop_54 (((M.1 1 - (0) : Int)).toNat + 1) (0) (0) ⟨by omega, fun h => by unfold mCan; rw [if_pos h], fun h => by unfold mCan; rw [if_neg (by omega)]⟩ (by omega) _ _ _ hS (lv_sub hl [0, 1, 2, 3, 4] rfl)
  exact loop_1 (((M.1 3 - (0) : Int)).toNat + 1) (0) ((-1)) ⟨by omega, rfl⟩ (by omega) _ _ _ hS (lv_sub hl [0, 1, 2] rfl)

set_option maxHeartbeats 4000000 in
theorem m2_plan (l : Launch) (X : tl_X) (σ : tl_H) (mo : Nat) (ad : Nat → Nat) (M : mS) (hM : MD X σ mo ad M) (hI : mI M) (hL : ∀ p, 0 ≤ p → p < M.1 3 → 0 ≤ M.2 2 (4 * p + 3)) (hs : M.1 6 + mSum M ≤ 216) : tl_Met l X yX2_plan cX2_plan 2 ((Option.some FieldType.int)) 6 (0) (0) [.ref (mo)] σ (tl_Qi X (fun r σ' => r = iI (mPlan (mset M 0 0)).1 ∧ MD X σ' mo ad (mPlan (mset M 0 0)).2 ∧ mFr σ σ')) := by
  obtain ⟨M1, eM1⟩ : ∃ z, z = mset M 0 0 := ⟨_, rfl⟩
  rw [← eM1]
  refine tl_start (by decide) (Nat.le_of_ble_eq_true rfl) (fun p e s m below meth c ls C hr hml hlk hnm hS hl => ?_)
  have hl : lv_has ls 2 [(0, .ref (mo))] := hl
  obtain ⟨hm, h0, h1, h2, h3, h4, h5, hd⟩ := id hM
  obtain ⟨hN, hB, hPt, hJ, hA, hWn⟩ := id hI
  have hfr : mFr σ σ := mFr.rf
  refine lv_aload_n C.1 C.2.1 dX2_plan_0 rfl (lv_at hl 0 rfl) ?_
  refine ti_const C.1 C.2.1 dX2_plan_1 ?_
  refine gp_X2_36_8 C hS hm rfl rfl (Nat.le_of_ble_eq_true rfl) dX2_plan_2 (fun H locs hS => ?_)
  obtain ⟨σ_1, eσ_1⟩ : ∃ z, z = va_up σ (mo) (some (oO 8 [.int (iI (0)), .int (iI (M.1 1)), .ref (ad 0), .int (iI (M.1 2)), .ref (ad 1), .int (iI (M.1 3)), .ref (ad 2), .ref (ad 3), .int (iI (M.1 4)), .int (iI (M.1 5)), .int (iI (M.1 6)), .ref (ad 4), .ref (ad 5), .int (iI (M.1 7)), .int (iI (M.1 8))])) := ⟨_, rfl⟩
  have hS : tl_S X s σ_1 H locs := by rw [eσ_1]; exact hS
  have he_2 : σ_1 (mo) = some (oO 8 [.int (iI (0)), .int (iI (M.1 1)), .ref (ad 0), .int (iI (M.1 2)), .ref (ad 1), .int (iI (M.1 3)), .ref (ad 2), .ref (ad 3), .int (iI (M.1 4)), .int (iI (M.1 5)), .int (iI (M.1 6)), .ref (ad 4), .ref (ad 5), .int (iI (M.1 7)), .int (iI (M.1 8))]) := by rw [eσ_1]; exact up_s
  have he_3 := up_kp eσ_1 (Ne.symm (tl_neA hm h0)) h0
  have he_4 := up_kp eσ_1 (Ne.symm (tl_neA hm h1)) h1
  have he_5 := up_kp eσ_1 (Ne.symm (tl_neA hm h2)) h2
  have he_6 := up_kp eσ_1 (Ne.symm (tl_neA hm h3)) h3
  have he_7 := up_kp eσ_1 (Ne.symm (tl_neA hm h4)) h4
  have he_8 := up_kp eσ_1 (Ne.symm (tl_neA hm h5)) h5
  have hfr := hfr.up hm mK_o eσ_1
  have hM1 : MD X σ_1 mo ad M1 := by rw [eM1]; exact ⟨he_2, he_3, he_4, he_5, he_6, he_7, he_8, hd⟩
  have hI1 : mI M1 := by rw [eM1]; exact hI.t0 0 (by decide)
  obtain ⟨hm, h0, h1, h2, h3, h4, h5, hd⟩ := id hM1
  obtain ⟨hN, hB, hPt, hJ, hA, hWn⟩ := id hI1
  have hL1 : ∀ p, 0 ≤ p → p < M1.1 3 → 0 ≤ M1.2 2 (4 * p + 3) := by rw [eM1]; exact hL
  have hs1 : M1.1 6 + mSum M1 ≤ 216 := by rw [eM1]; exact hs
  have hs2 := mSum_pos (M := M1) (by omega) hL1
  refine ti_const C.1 C.2.1 dX2_plan_5 ?_
  refine lv_istore_n (lv' := [(1, .int (iI (0))), (0, .ref (mo))]) C.1 C.2.1 dX2_plan_6 rfl hl (by decide) rfl (fun ls hl => ?_)
  have loop_9 : ∀ (n_10 : Nat) (many : Int) (Mk : mS), (0 ≤ mSum Mk ∧ 0 ≤ many ∧ many + mSum Mk ≤ 300 ∧ Mk.1 6 + mSum Mk ≤ 216) ∧ mPlF n_10 many Mk = mPlan M1 → mSum Mk < (n_10 : Int) → ∀ (σc : tl_H) (hMk : MD X σc mo ad Mk) (hIk : mI Mk) (hLk : ∀ p, 0 ≤ p → p < Mk.1 3 → 0 ≤ Mk.2 2 (4 * p + 3)) (hfc : mFr σ σc) (H : Heap) (locs : List Loc) (ls : Array Slot), tl_S X s σc H locs → lv_has ls 2 [(1, .int (iI (many))), (0, .ref (mo))] → W p l e (tl_rm 6 (0) (0)) s m ([.ref (mo)] : List Value).toArray below meth c H locs (0) (0) (MQ below (tl_Qi X (fun r σ' => r = iI (mPlan M1).1 ∧ MD X σ' mo ad (mPlan M1).2 ∧ mFr σ σ')) ([.ref (mo)] : List Value).toArray s (0) (0) (tl_A X)) (F0 m 7 ls []) := by
    intro n_10
    induction n_10 with
    | zero => intro many Mk hinv hms; omega
    | succ n_10 ih_11 =>
      intro many Mk hinv hms_12 σc hMk hIk hLk hfc H locs ls hS hl
      obtain ⟨hv, hR⟩ := hinv
      obtain ⟨hm, h0, h1, h2, h3, h4, h5, hd⟩ := id hMk
      have hNk := hIk.1
      have hsk := mSum_pos (M := Mk) (by omega) hLk
      have hfr := hfc
      refine lv_aload_n C.1 C.2.1 dX2_plan_7 rfl (lv_at hl 1 rfl) ?_
      refine tl_ci (t_V (n := 0) (ci := 8) C hml hS (m2_planOne l X σc mo ad Mk hMk hIk (fun q h0 h1 h2 => by have := mSum_ge (M := Mk) (by omega) hLk h0 h1; omega)) q1911 q1913 qs39 q53 q1914 (by decide +kernel) hm rfl rfl hl.1 rfl (Nat.le_of_ble_eq_true rfl) dX2_plan_8 ⟨Nat.le_of_ble_eq_true rfl, Nat.le_of_ble_eq_true rfl⟩ ⟨Nat.le_refl _, Nat.le_refl _⟩) hS (fun r_13 σ_15 H locs hP_14 hS => ?_)
      obtain ⟨rfl, hMp, hfr9⟩ := hP_14
      have hfr := hfr.trans hfr9
      obtain ⟨hma, hma0, hma1, hma2, hma3, hma4, hma5, hd⟩ := id hMp
      by_cases hbb : mBest Mk = -1
      · skip
        have e1 : (mPlanOne Mk).1 = 0 := by unfold mPlanOne; rw [if_pos hbb]
        have e2 : (mPlanOne Mk).2 = Mk := by unfold mPlanOne; rw [if_pos hbb]
        rw [e2] at hMp
        rw [e1]
        obtain ⟨hma, hma0, hma1, hma2, hma3, hma4, hma5, hd⟩ := id hMp
        refine ti_if_eq (tgt := 20) C.1 C.2.1 dX2_plan_11 (by decide) ⟨by decide, by decide⟩ (fun hc_16 => ?_) (fun hc_16 => ?_)
        · skip
          refine lv_iload_n C.1 C.2.1 dX2_plan_20 rfl (lv_at hl 0 rfl) ?_
          exact r_i C hr hlk hS (by rw [show mPlan M1 = (many, Mk) from by (rw [← hR]; show (if _ then _ else _) = _; rw [if_pos hbb])]; exact ⟨rfl, ⟨hma, hma0, hma1, hma2, hma3, hma4, hma5, hd⟩, hfr⟩) dX2_plan_21
        · skip
          exact absurd hc_16 (by decide)
      · skip
        have e1 : (mPlanOne Mk).1 = 1 := by unfold mPlanOne; rw [if_neg hbb]
        rw [e1]
        have hso := mSum_one (M := Mk) (by omega) hbb
        have hbk := mBest_ok (M := Mk) (by omega)
        have h77 := mCan_left (M := Mk) (p := mBest Mk) (by omega)
        have h78 := mSum_ge (M := Mk) (by omega) hLk (q := mBest Mk) (by omega) (by omega)
        refine ti_if_eq (tgt := 20) C.1 C.2.1 dX2_plan_11 (by decide) ⟨by decide, by decide⟩ (fun hc_17 => ?_) (fun hc_17 => ?_)
        · skip
          exact absurd hc_17 (by decide)
        · skip
          refine ti_iinc (lv' := [(1, .int (iI ((many + 1)))), (0, .ref (mo))]) C.1 C.2.1 dX2_plan_14 hl (k := 0) rfl (by decide) rfl (fun ls hl => ?_)
          refine lv_goto (tgt := 7) C.1 C.2.1 dX2_plan_17 (by decide) ?_
          exact ih_11 ((many + 1)) (mPlanOne Mk).2 ⟨by omega, by rw [← hR]; show _ = (if _ then _ else _); rw [if_neg hbb]⟩ (by omega) σ_15 ⟨hma, hma0, hma1, hma2, hma3, hma4, hma5, hd⟩ (hIk.plan hbb (by omega)) (mPlan_left (by omega) hbb hLk) hfr _ _ _ hS (lv_sub hl [0, 1] rfl)
  exact loop_9 (300) (0) M1 ⟨by omega, rfl⟩ (by omega) σ_1 hM1 hI1 hL1 hfr _ _ _ hS (lv_sub hl [0, 1] rfl)

