/-! THE MODEL: PIECES, CUTS, ROOMS .. (printed by gen_model4.py) -/
set_option maxRecDepth 100000
set_option maxHeartbeats 4000000 in
theorem m2_piece (l : Launch) (X : tl_X) (σ : tl_H) (mo : Nat) (ad : Nat → Nat) (M : mS) (hM : MD X σ mo ad M) (hI : mI M) (b k x : Int) (hr : -2147483648 ≤ b ∧ b ≤ 2147483647 ∧ -2147483648 ≤ k ∧ k ≤ 2147483647 ∧ -2147483648 ≤ x ∧ x ≤ 2147483647) (hch : ∀ j : Nat, (j : Int) < mPieces (mset M 0 0) b → 0 ≤ mNth (mset M 0 0) b j ∧ mNth (mset M 0 0) b j < (mset M 0 0).1 6) : tl_Met l X yX2_piece cX2_piece 6 ((Option.some FieldType.int)) 4 (0) (0) [.ref (mo), .int (iI (b)), .int (iI (k)), .int (iI (x))] σ (tl_Qi X (fun r σ' => r = iI (mPiece (mset M 0 0) b k x).1 ∧ MD X σ' mo ad (mPiece (mset M 0 0) b k x).2 ∧ mFr σ σ')) := by
  obtain ⟨M1, eM1⟩ : ∃ z, z = mset M 0 0 := ⟨_, rfl⟩
  rw [← eM1]
  rw [← eM1] at hch
  refine tl_start (by decide) (Nat.le_of_ble_eq_true rfl) (fun p e s m below meth c ls C hr hml hlk hnm hS hl => ?_)
  have hl : lv_has ls 6 [(0, .ref (mo)), (1, .int (iI (b))), (2, .int (iI (k))), (3, .int (iI (x)))] := hl
  obtain ⟨hm, h0, h1, h2, h3, h4, h5, hd⟩ := id hM
  obtain ⟨hN, hB, hPt, hJ, hA, hWn⟩ := id hI
  have hfr : mFr σ σ := mFr.rf
  refine lv_aload_n C.1 C.2.1 dX2_piece_0 rfl (lv_at hl 0 rfl) ?_
  refine ti_const C.1 C.2.1 dX2_piece_1 ?_
  refine gp_X2_36_8 C hS hm rfl rfl (Nat.le_of_ble_eq_true rfl) dX2_piece_2 (fun H locs hS => ?_)
  obtain ⟨σ_1, eσ_1⟩ : ∃ z, z = va_up σ (mo) (some (oO 8 [.int (iI (0)), .int (iI (M.1 1)), .ref (ad 0), .int (iI (M.1 2)), .ref (ad 1), .int (iI (M.1 3)), .ref (ad 2), .ref (ad 3), .int (iI (M.1 4)), .int (iI (M.1 5)), .int (iI (M.1 6)), .ref (ad 4), .ref (ad 5), .int (iI (M.1 7)), .int (iI (M.1 8))])) := ⟨_, rfl⟩
  have hS : tl_S X s σ_1 H locs := by rw [eσ_1]; exact hS
  have he_2 : σ_1 (mo) = some (oO 8 [.int (iI (0)), .int (iI (M.1 1)), .ref (ad 0), .int (iI (M.1 2)), .ref (ad 1), .int (iI (M.1 3)), .ref (ad 2), .ref (ad 3), .int (iI (M.1 4)), .int (iI (M.1 5)), .int (iI (M.1 6)), .ref (ad 4), .ref (ad 5), .int (iI (M.1 7)), .int (iI (M.1 8))]) := by rw [eσ_1]; exact up_s
  have he_3 := up_kp eσ_1 (Ne.symm (tl_neA hm h0)) h0
  have he_4 := up_kp eσ_1 (Ne.symm (tl_neA hm h1)) h1
  have he_5 := up_kp eσ_1 (Ne.symm (tl_neA hm h2)) h2
  have he_6 := up_kp eσ_1 (Ne.symm (tl_neA hm h3)) h3
  have he_7 := up_kp eσ_1 (Ne.symm (tl_neA hm h4)) h4
  have he_8 := up_kp eσ_1 (Ne.symm (tl_neA hm h5)) h5
  have hfr := hfr.up hm mK_o eσ_1
  have hM1 : MD X σ_1 mo ad M1 := by rw [eM1]; exact ⟨he_2, he_3, he_4, he_5, he_6, he_7, he_8, hd⟩
  have hI1 : mI M1 := by rw [eM1]; exact hI.t0 0 (by decide)
  obtain ⟨hm, h0, h1, h2, h3, h4, h5, hd⟩ := id hM1
  obtain ⟨hN, hB, hPt, hJ, hA, hWn⟩ := id hI1
  refine lv_aload_n C.1 C.2.1 dX2_piece_5 rfl (lv_at hl 0 rfl) ?_
  refine lv_iload_n C.1 C.2.1 dX2_piece_6 rfl (lv_at hl 1 rfl) ?_
  refine tl_ci (t_V (n := 1) (ci := 8) C hml hS (m2_isBoard l X σ_1 mo ad M1 hM1 hI1 (b) (by omega)) q1793 q1795 qs22 q53 q1796 (by decide +kernel) hm rfl rfl hl.1 rfl (Nat.le_of_ble_eq_true rfl) dX2_piece_7 ⟨Nat.le_of_ble_eq_true rfl, Nat.le_of_ble_eq_true rfl⟩ ⟨Nat.le_refl _, Nat.le_refl _⟩) hS (fun r_9 σ_11 H locs hP_10 hS => ?_)
  obtain ⟨rfl, rfl⟩ := hP_10
  refine ti_tb_eq (tgt := 37) C.1 C.2.1 dX2_piece_10 (by decide) (fun hc_12 => ?_) (fun hc_12 => ?_)
  · skip
    refine lv_aload_n C.1 C.2.1 dX2_piece_37 rfl (lv_at hl 0 rfl) ?_
    refine ti_const C.1 C.2.1 dX2_piece_38 ?_
    refine tl_ci (t_V (n := 1) (ci := 8) C hml hS (m2_fail l X σ_1 mo ad M1 ⟨hm, h0, h1, h2, h3, h4, h5, hd⟩ (1)) q1785 q1787 qs21 q53 q1788 (by decide +kernel) hm rfl rfl hl.1 rfl (Nat.le_of_ble_eq_true rfl) dX2_piece_39 ⟨Nat.le_of_ble_eq_true rfl, Nat.le_of_ble_eq_true rfl⟩ ⟨Nat.le_refl _, Nat.le_refl _⟩) hS (fun r_13 σ_15 H locs hP_14 hS => ?_)
    obtain ⟨rfl, hM_16, hfr9⟩ := hP_14
    have hfr := hfr.trans hfr9
    obtain ⟨hm_17, hm_18, hm_19, hm_20, hm_21, hm_22, hm_23, hd⟩ := id hM_16
    exact r_i C hr hlk hS (by rw [show mPiece M1 b k x = (0, (mset M1 0 (1))) from by (unfold mPiece; (repeat (first | rw [if_pos (by omega)] | rw [if_neg (by omega)])); try rfl)]; exact ⟨rfl, ⟨hm_17, hm_18, hm_19, hm_20, hm_21, hm_22, hm_23, hd⟩, hfr⟩) dX2_piece_42
  · skip
    refine lv_iload_n C.1 C.2.1 dX2_piece_13 rfl (lv_at hl 2 rfl) ?_
    refine ti_const C.1 C.2.1 dX2_piece_14 ?_
    refine lv_aload_n C.1 C.2.1 dX2_piece_15 rfl (lv_at hl 0 rfl) ?_
    refine lv_iload_n C.1 C.2.1 dX2_piece_16 rfl (lv_at hl 1 rfl) ?_
    have hpo_24 := mPieces_bd (M := M1) (by omega) (b)
    refine tl_ci (t_V (n := 1) (ci := 8) C hml hS (m2_piecesOf l X σ_1 mo ad M1 hM1 hI1 (b) (by omega)) q1935 q1937 qs43 q53 q1938 (by decide +kernel) hm rfl rfl hl.1 rfl (Nat.le_of_ble_eq_true rfl) dX2_piece_17 ⟨Nat.le_of_ble_eq_true rfl, Nat.le_of_ble_eq_true rfl⟩ ⟨Nat.le_refl _, Nat.le_refl _⟩) hS (fun r_25 σ_27 H locs hP_26 hS => ?_)
    obtain ⟨rfl, rfl⟩ := hP_26
    refine ti_const C.1 C.2.1 dX2_piece_20 ?_
    refine ti_isub C.1 C.2.1 dX2_piece_21 ?_
    refine tl_ci (t_S (n := 3) C hml hS (m2_isIn l X σ_1 (k) (0) (((mPieces M1 b) - 1)) (by omega)) q1782 q1783 q53 q1784 (by decide +kernel) rfl hl.1 rfl (Nat.le_of_ble_eq_true rfl) dX2_piece_22 ⟨Nat.le_of_ble_eq_true rfl, Nat.le_of_ble_eq_true rfl⟩ ⟨Nat.le_refl _, Nat.le_refl _⟩) hS (fun r_28 σ_30 H locs hP_29 hS => ?_)
    obtain ⟨rfl, rfl⟩ := hP_29
    refine ti_tb_eq (tgt := 37) C.1 C.2.1 dX2_piece_25 (by decide) (fun hc_31 => ?_) (fun hc_31 => ?_)
    · skip
      refine lv_aload_n C.1 C.2.1 dX2_piece_37 rfl (lv_at hl 0 rfl) ?_
      refine ti_const C.1 C.2.1 dX2_piece_38 ?_
      refine tl_ci (t_V (n := 1) (ci := 8) C hml hS (m2_fail l X σ_1 mo ad M1 ⟨hm, h0, h1, h2, h3, h4, h5, hd⟩ (1)) q1785 q1787 qs21 q53 q1788 (by decide +kernel) hm rfl rfl hl.1 rfl (Nat.le_of_ble_eq_true rfl) dX2_piece_39 ⟨Nat.le_of_ble_eq_true rfl, Nat.le_of_ble_eq_true rfl⟩ ⟨Nat.le_refl _, Nat.le_refl _⟩) hS (fun r_32 σ_34 H locs hP_33 hS => ?_)
      obtain ⟨rfl, hM_35, hfr9⟩ := hP_33
      have hfr := hfr.trans hfr9
      obtain ⟨hm_36, hm_37, hm_38, hm_39, hm_40, hm_41, hm_42, hd⟩ := id hM_35
      exact r_i C hr hlk hS (by rw [show mPiece M1 b k x = (0, (mset M1 0 (1))) from by (unfold mPiece; (repeat (first | rw [if_pos (by omega)] | rw [if_neg (by omega)])); try rfl)]; exact ⟨rfl, ⟨hm_36, hm_37, hm_38, hm_39, hm_40, hm_41, hm_42, hd⟩, hfr⟩) dX2_piece_42
    · skip
      refine lv_iload_n C.1 C.2.1 dX2_piece_28 rfl (lv_at hl 3 rfl) ?_
      refine ti_const C.1 C.2.1 dX2_piece_29 ?_
      refine ti_const C.1 C.2.1 dX2_piece_30 ?_
      refine tl_ci (t_S (n := 3) C hml hS (m2_isIn l X σ_1 (x) (0) (3) (by omega)) q1782 q1783 q53 q1784 (by decide +kernel) rfl hl.1 rfl (Nat.le_of_ble_eq_true rfl) dX2_piece_31 ⟨Nat.le_of_ble_eq_true rfl, Nat.le_of_ble_eq_true rfl⟩ ⟨Nat.le_refl _, Nat.le_refl _⟩) hS (fun r_43 σ_45 H locs hP_44 hS => ?_)
      obtain ⟨rfl, rfl⟩ := hP_44
      refine ti_tb_ne (tgt := 43) C.1 C.2.1 dX2_piece_34 (by decide) (fun hc_46 => ?_) (fun hc_46 => ?_)
      · skip
        refine lv_aload_n C.1 C.2.1 dX2_piece_43 rfl (lv_at hl 0 rfl) ?_
        refine lv_iload_n C.1 C.2.1 dX2_piece_44 rfl (lv_at hl 1 rfl) ?_
        refine ti_const C.1 C.2.1 dX2_piece_45 ?_
        have hpf_47 := mPf_ok (M := M1) (by omega) (b) (0)
        refine tl_ci (t_V (n := 2) (ci := 8) C hml hS (m2_pieceFrom l X σ_1 mo ad M1 hM1 hI1 (b) (0) (by omega)) q1943 q1945 qs44 q53 q1946 (by decide +kernel) hm rfl rfl hl.1 rfl (Nat.le_of_ble_eq_true rfl) dX2_piece_46 ⟨Nat.le_of_ble_eq_true rfl, Nat.le_of_ble_eq_true rfl⟩ ⟨Nat.le_refl _, Nat.le_refl _⟩) hS (fun r_48 σ_50 H locs hP_49 hS => ?_)
        obtain ⟨rfl, rfl⟩ := hP_49
        refine lv_istore (lv' := [(4, .int (iI ((mPieceFrom M1 b 0)))), (0, .ref (mo)), (1, .int (iI (b))), (2, .int (iI (k))), (3, .int (iI (x)))]) C.1 C.2.1 dX2_piece_49 hl (by decide) rfl (fun ls hl => ?_)
        refine ti_const C.1 C.2.1 dX2_piece_51 ?_
        refine lv_istore (lv' := [(5, .int (iI (0))), (4, .int (iI ((mPieceFrom M1 b 0)))), (0, .ref (mo)), (1, .int (iI (b))), (2, .int (iI (k))), (3, .int (iI (x)))]) C.1 C.2.1 dX2_piece_52 hl (by decide) rfl (fun ls hl => ?_)
        have loop_51 : ∀ (n_52 : Nat) (i : Int) (fd : Int), (0 ≤ i ∧ i ≤ k) ∧ fd = mNth M1 b i.toNat → k - i < (n_52 : Int) → ∀ (H : Heap) (locs : List Loc) (ls : Array Slot), tl_S X s σ_1 H locs → lv_has ls 6 [(5, .int (iI (i))), (4, .int (iI (fd))), (0, .ref (mo)), (1, .int (iI (b))), (2, .int (iI (k))), (3, .int (iI (x)))] → W p l e (tl_rm 4 (0) (0)) s m ([.ref (mo), .int (iI (b)), .int (iI (k)), .int (iI (x))] : List Value).toArray below meth c H locs (0) (0) (MQ below (tl_Qi X (fun r σ' => r = iI (mPiece M1 b k x).1 ∧ MD X σ' mo ad (mPiece M1 b k x).2 ∧ mFr σ σ')) ([.ref (mo), .int (iI (b)), .int (iI (k)), .int (iI (x))] : List Value).toArray s (0) (0) (tl_A X)) (F0 m 54 ls []) := by
          intro n_52
          induction n_52 with
          | zero => intro i fd hinv hms; omega
          | succ n_52 ih_53 =>
            intro i fd hinv hms_54  H locs ls hS hl
            obtain ⟨hv, hfd⟩ := hinv
            have hch1 := hch i.toNat (by omega)
            rw [← hfd] at hch1
            refine lv_iload C.1 C.2.1 dX2_piece_54 (lv_at hl 0 rfl) ?_
            refine lv_iload_n C.1 C.2.1 dX2_piece_56 rfl (lv_at hl 4 rfl) ?_
            refine ti_icmp_ge (tgt := 79) C.1 C.2.1 dX2_piece_57 (by decide) ⟨by omega, by omega⟩ ⟨by omega, by omega⟩ (fun hc_55 => ?_) (fun hc_55 => ?_)
            · skip
              refine lv_aload_n C.1 C.2.1 dX2_piece_79 rfl (lv_at hl 2 rfl) ?_
              refine lv_iload C.1 C.2.1 dX2_piece_80 (lv_at hl 1 rfl) ?_
              refine lv_iload_n C.1 C.2.1 dX2_piece_82 rfl (lv_at hl 5 rfl) ?_
              refine tl_ci (t_V (n := 2) (ci := 8) C hml hS (m2_told l X σ_1 mo ad M1 hM1 hI1 (fd) (x) (by omega)) q1947 q1949 qs45 q53 q1950 (by decide +kernel) hm rfl rfl hl.1 rfl (Nat.le_of_ble_eq_true rfl) dX2_piece_83 ⟨Nat.le_of_ble_eq_true rfl, Nat.le_of_ble_eq_true rfl⟩ ⟨Nat.le_refl _, Nat.le_refl _⟩) hS (fun r_56 σ_58 H locs hP_57 hS => ?_)
              obtain ⟨rfl, rfl⟩ := hP_57
              exact r_i C hr hlk hS (by rw [show mPiece M1 b k x = (mTold M1 fd x, M1) from by unfold mPiece; rw [if_pos (by omega), hfd, show i = k by omega]]; exact ⟨rfl, ⟨hm, h0, h1, h2, h3, h4, h5, hd⟩, hfr⟩) dX2_piece_86
            · skip
              refine lv_aload_n C.1 C.2.1 dX2_piece_60 rfl (lv_at hl 2 rfl) ?_
              refine lv_iload_n C.1 C.2.1 dX2_piece_61 rfl (lv_at hl 3 rfl) ?_
              refine lv_aload_n C.1 C.2.1 dX2_piece_62 rfl (lv_at hl 2 rfl) ?_
              refine lv_iload C.1 C.2.1 dX2_piece_63 (lv_at hl 1 rfl) ?_
              have hb_59 := hB 4 ((4 * fd) + 2)
              refine tl_ci (t_V (n := 1) (ci := 8) C hml hS (m2_to l X σ_1 mo ad M1 hM1 hI1 (fd) (by omega)) q1809 q1811 qs26 q53 q1812 (by decide +kernel) hm rfl rfl hl.1 rfl (Nat.le_of_ble_eq_true rfl) dX2_piece_65 ⟨Nat.le_of_ble_eq_true rfl, Nat.le_of_ble_eq_true rfl⟩ ⟨Nat.le_refl _, Nat.le_refl _⟩) hS (fun r_60 σ_62 H locs hP_61 hS => ?_)
              obtain ⟨rfl, rfl⟩ := hP_61
              have hpf_63 := mPf_ok (M := M1) (by omega) (b) ((M1.2 4 ((4 * fd) + 2)))
              refine tl_ci (t_V (n := 2) (ci := 8) C hml hS (m2_pieceFrom l X σ_1 mo ad M1 hM1 hI1 (b) ((M1.2 4 ((4 * fd) + 2))) (by omega)) q1943 q1945 qs44 q53 q1946 (by decide +kernel) hm rfl rfl hl.1 rfl (Nat.le_of_ble_eq_true rfl) dX2_piece_68 ⟨Nat.le_of_ble_eq_true rfl, Nat.le_of_ble_eq_true rfl⟩ ⟨Nat.le_refl _, Nat.le_refl _⟩) hS (fun r_64 σ_66 H locs hP_65 hS => ?_)
              obtain ⟨rfl, rfl⟩ := hP_65
              refine lv_istore (lv' := [(4, .int (iI ((mPieceFrom M1 b (M1.2 4 ((4 * fd) + 2)))))), (5, .int (iI (i))), (0, .ref (mo)), (1, .int (iI (b))), (2, .int (iI (k))), (3, .int (iI (x)))]) C.1 C.2.1 dX2_piece_71 hl (by decide) rfl (fun ls hl => ?_)
              refine ti_iinc (lv' := [(5, .int (iI ((i + 1)))), (4, .int (iI ((mPieceFrom M1 b (M1.2 4 ((4 * fd) + 2)))))), (0, .ref (mo)), (1, .int (iI (b))), (2, .int (iI (k))), (3, .int (iI (x)))]) C.1 C.2.1 dX2_piece_73 hl (k := 1) rfl (by decide) rfl (fun ls hl => ?_)
              refine lv_goto (tgt := 54) C.1 C.2.1 dX2_piece_76 (by decide) ?_
              exact ih_53 ((i + 1)) ((mPieceFrom M1 b (M1.2 4 ((4 * fd) + 2)))) ⟨by omega, by rw [show (i + 1).toNat = i.toNat + 1 by omega]; show _ = mPieceFrom M1 b (M1.2 4 (4 * mNth M1 b i.toNat + 2)); rw [← hfd]⟩ (by omega) _ _ _ hS (lv_sub hl [0, 1, 2, 3, 4, 5] rfl)
        exact loop_51 (((k - (0) : Int)).toNat + 1) (0) ((mPieceFrom M1 b 0)) ⟨by omega, rfl⟩ (by omega) _ _ _ hS (lv_sub hl [0, 1, 2, 3, 4, 5] rfl)
      · skip
        refine lv_aload_n C.1 C.2.1 dX2_piece_37 rfl (lv_at hl 0 rfl) ?_
        refine ti_const C.1 C.2.1 dX2_piece_38 ?_
        refine tl_ci (t_V (n := 1) (ci := 8) C hml hS (m2_fail l X σ_1 mo ad M1 ⟨hm, h0, h1, h2, h3, h4, h5, hd⟩ (1)) q1785 q1787 qs21 q53 q1788 (by decide +kernel) hm rfl rfl hl.1 rfl (Nat.le_of_ble_eq_true rfl) dX2_piece_39 ⟨Nat.le_of_ble_eq_true rfl, Nat.le_of_ble_eq_true rfl⟩ ⟨Nat.le_refl _, Nat.le_refl _⟩) hS (fun r_67 σ_69 H locs hP_68 hS => ?_)
        obtain ⟨rfl, hM_70, hfr9⟩ := hP_68
        have hfr := hfr.trans hfr9
        obtain ⟨hm_71, hm_72, hm_73, hm_74, hm_75, hm_76, hm_77, hd⟩ := id hM_70
        exact r_i C hr hlk hS (by rw [show mPiece M1 b k x = (0, (mset M1 0 (1))) from by (unfold mPiece; (repeat (first | rw [if_pos (by omega)] | rw [if_neg (by omega)])); try rfl)]; exact ⟨rfl, ⟨hm_71, hm_72, hm_73, hm_74, hm_75, hm_76, hm_77, hd⟩, hfr⟩) dX2_piece_42

set_option maxHeartbeats 4000000 in
theorem m2_cuts (l : Launch) (X : tl_X) (σ : tl_H) (mo : Nat) (ad : Nat → Nat) (M : mS) (hM : MD X σ mo ad M) (hI : mI M) (b : Int) (hr : -2147483648 ≤ b ∧ b ≤ 2147483647) (hln : ∀ q, 0 ≤ q → q < M.1 6 → M.2 4 (4 * q + 1) < M.2 4 (4 * q + 2)) : tl_Met l X yX2_cuts cX2_cuts 5 ((Option.some FieldType.int)) 4 (0) (0) [.ref (mo), .int (iI (b))] σ (tl_Qi X (fun r σ' => r = iI (mCuts (mset M 0 0) b).1 ∧ MD X σ' mo ad (mCuts (mset M 0 0) b).2 ∧ mFr σ σ')) := by
  obtain ⟨M1, eM1⟩ : ∃ z, z = mset M 0 0 := ⟨_, rfl⟩
  rw [← eM1]
  have hln1 : ∀ q, 0 ≤ q → q < M1.1 6 → M1.2 4 (4 * q + 1) < M1.2 4 (4 * q + 2) := by rw [eM1]; exact hln
  refine tl_start (by decide) (Nat.le_of_ble_eq_true rfl) (fun p e s m below meth c ls C hr hml hlk hnm hS hl => ?_)
  have hl : lv_has ls 5 [(0, .ref (mo)), (1, .int (iI (b)))] := hl
  obtain ⟨hm, h0, h1, h2, h3, h4, h5, hd⟩ := id hM
  obtain ⟨hN, hB, hPt, hJ, hA, hWn⟩ := id hI
  have hfr : mFr σ σ := mFr.rf
  refine lv_aload_n C.1 C.2.1 dX2_cuts_0 rfl (lv_at hl 0 rfl) ?_
  refine ti_const C.1 C.2.1 dX2_cuts_1 ?_
  refine gp_X2_36_8 C hS hm rfl rfl (Nat.le_of_ble_eq_true rfl) dX2_cuts_2 (fun H locs hS => ?_)
  obtain ⟨σ_1, eσ_1⟩ : ∃ z, z = va_up σ (mo) (some (oO 8 [.int (iI (0)), .int (iI (M.1 1)), .ref (ad 0), .int (iI (M.1 2)), .ref (ad 1), .int (iI (M.1 3)), .ref (ad 2), .ref (ad 3), .int (iI (M.1 4)), .int (iI (M.1 5)), .int (iI (M.1 6)), .ref (ad 4), .ref (ad 5), .int (iI (M.1 7)), .int (iI (M.1 8))])) := ⟨_, rfl⟩
  have hS : tl_S X s σ_1 H locs := by rw [eσ_1]; exact hS
  have he_2 : σ_1 (mo) = some (oO 8 [.int (iI (0)), .int (iI (M.1 1)), .ref (ad 0), .int (iI (M.1 2)), .ref (ad 1), .int (iI (M.1 3)), .ref (ad 2), .ref (ad 3), .int (iI (M.1 4)), .int (iI (M.1 5)), .int (iI (M.1 6)), .ref (ad 4), .ref (ad 5), .int (iI (M.1 7)), .int (iI (M.1 8))]) := by rw [eσ_1]; exact up_s
  have he_3 := up_kp eσ_1 (Ne.symm (tl_neA hm h0)) h0
  have he_4 := up_kp eσ_1 (Ne.symm (tl_neA hm h1)) h1
  have he_5 := up_kp eσ_1 (Ne.symm (tl_neA hm h2)) h2
  have he_6 := up_kp eσ_1 (Ne.symm (tl_neA hm h3)) h3
  have he_7 := up_kp eσ_1 (Ne.symm (tl_neA hm h4)) h4
  have he_8 := up_kp eσ_1 (Ne.symm (tl_neA hm h5)) h5
  have hfr := hfr.up hm mK_o eσ_1
  have hM1 : MD X σ_1 mo ad M1 := by rw [eM1]; exact ⟨he_2, he_3, he_4, he_5, he_6, he_7, he_8, hd⟩
  have hI1 : mI M1 := by rw [eM1]; exact hI.t0 0 (by decide)
  obtain ⟨hm, h0, h1, h2, h3, h4, h5, hd⟩ := id hM1
  obtain ⟨hN, hB, hPt, hJ, hA, hWn⟩ := id hI1
  refine lv_aload_n C.1 C.2.1 dX2_cuts_5 rfl (lv_at hl 0 rfl) ?_
  refine lv_iload_n C.1 C.2.1 dX2_cuts_6 rfl (lv_at hl 1 rfl) ?_
  refine tl_ci (t_V (n := 1) (ci := 8) C hml hS (m2_isBoard l X σ_1 mo ad M1 hM1 hI1 (b) (by omega)) q1793 q1795 qs22 q53 q1796 (by decide +kernel) hm rfl rfl hl.1 rfl (Nat.le_of_ble_eq_true rfl) dX2_cuts_7 ⟨Nat.le_of_ble_eq_true rfl, Nat.le_of_ble_eq_true rfl⟩ ⟨Nat.le_refl _, Nat.le_refl _⟩) hS (fun r_9 σ_11 H locs hP_10 hS => ?_)
  obtain ⟨rfl, rfl⟩ := hP_10
  refine ti_tb_ne (tgt := 19) C.1 C.2.1 dX2_cuts_10 (by decide) (fun hc_12 => ?_) (fun hc_12 => ?_)
  · skip
    refine ti_const C.1 C.2.1 dX2_cuts_19 ?_
    refine lv_istore_n (lv' := [(2, .int (iI (0))), (0, .ref (mo)), (1, .int (iI (b)))]) C.1 C.2.1 dX2_cuts_20 rfl hl (by decide) rfl (fun ls hl => ?_)
    refine ti_const C.1 C.2.1 dX2_cuts_21 ?_
    refine lv_istore_n (lv' := [(3, .int (iI ((-1)))), (2, .int (iI (0))), (0, .ref (mo)), (1, .int (iI (b)))]) C.1 C.2.1 dX2_cuts_22 rfl hl (by decide) rfl (fun ls hl => ?_)
    refine lv_aload_n C.1 C.2.1 dX2_cuts_23 rfl (lv_at hl 2 rfl) ?_
    refine lv_iload_n C.1 C.2.1 dX2_cuts_24 rfl (lv_at hl 3 rfl) ?_
    refine ti_const C.1 C.2.1 dX2_cuts_25 ?_
    have hpf_13 := mPf_ok (M := M1) (by omega) (b) (0)
    refine tl_ci (t_V (n := 2) (ci := 8) C hml hS (m2_pieceFrom l X σ_1 mo ad M1 hM1 hI1 (b) (0) (by omega)) q1943 q1945 qs44 q53 q1946 (by decide +kernel) hm rfl rfl hl.1 rfl (Nat.le_of_ble_eq_true rfl) dX2_cuts_26 ⟨Nat.le_of_ble_eq_true rfl, Nat.le_of_ble_eq_true rfl⟩ ⟨Nat.le_refl _, Nat.le_refl _⟩) hS (fun r_14 σ_16 H locs hP_15 hS => ?_)
    obtain ⟨rfl, rfl⟩ := hP_15
    refine lv_istore (lv' := [(4, .int (iI ((mPieceFrom M1 b 0)))), (3, .int (iI ((-1)))), (2, .int (iI (0))), (0, .ref (mo)), (1, .int (iI (b)))]) C.1 C.2.1 dX2_cuts_29 hl (by decide) rfl (fun ls hl => ?_)
    have loop_17 : ∀ (n_18 : Nat) (many : Int) (bf : Int) (q : Int) (lo : Int), (0 ≤ lo ∧ lo ≤ 9000 ∧ 0 ≤ many ∧ many ≤ 2 * lo ∧ (q = -1 ∨ 0 ≤ q ∧ q < M1.1 6 ∧ lo ≤ M1.2 4 (4 * q + 1)) ∧ (bf = -1 ∨ 0 ≤ bf ∧ bf < M1.1 6)) ∧ mCu M1 b n_18 many bf q = mCu M1 b 20001 0 (-1) (mPieceFrom M1 b 0) → 20000 - lo < (n_18 : Int) → ∀ (H : Heap) (locs : List Loc) (ls : Array Slot), tl_S X s σ_1 H locs → lv_has ls 5 [(4, .int (iI (q))), (3, .int (iI (bf))), (2, .int (iI (many))), (0, .ref (mo)), (1, .int (iI (b)))] → W p l e (tl_rm 4 (0) (0)) s m ([.ref (mo), .int (iI (b))] : List Value).toArray below meth c H locs (0) (0) (MQ below (tl_Qi X (fun r σ' => r = iI (mCuts M1 b).1 ∧ MD X σ' mo ad (mCuts M1 b).2 ∧ mFr σ σ')) ([.ref (mo), .int (iI (b))] : List Value).toArray s (0) (0) (tl_A X)) (F0 m 31 ls []) := by
      intro n_18
      induction n_18 with
      | zero => intro many bf q lo hinv hms; omega
      | succ n_18 ih_19 =>
        intro many bf q lo hinv hms_20  H locs ls hS hl
        obtain ⟨hv, hR⟩ := hinv
        have hl7 : q ≠ -1 → M1.2 4 (4 * q + 1) < M1.2 4 (4 * q + 2) := fun h => hln1 q (by omega) (by omega)
        have hb7 := hB 4 (4 * q + 1)
        have hb8 := hB 4 (4 * q + 2)
        refine lv_iload C.1 C.2.1 dX2_cuts_31 (lv_at hl 0 rfl) ?_
        refine ti_const C.1 C.2.1 dX2_cuts_33 ?_
        refine ti_icmp_eq (tgt := 109) C.1 C.2.1 dX2_cuts_34 (by decide) ⟨by omega, by omega⟩ ⟨by decide, by decide⟩ (fun hc_21 => ?_) (fun hc_21 => ?_)
        · skip
          refine lv_iload_n C.1 C.2.1 dX2_cuts_109 rfl (lv_at hl 2 rfl) ?_
          exact r_i C hr hlk hS (by rw [show mCuts M1 b = (many, M1) from by unfold mCuts; rw [if_pos (by omega), ← hR]; show ((if _ then _ else _), _) = _; rw [if_pos (by omega)]]; exact ⟨rfl, ⟨hm, h0, h1, h2, h3, h4, h5, hd⟩, hfr⟩) dX2_cuts_110
        · skip
          refine lv_aload_n C.1 C.2.1 dX2_cuts_37 rfl (lv_at hl 3 rfl) ?_
          refine lv_iload C.1 C.2.1 dX2_cuts_38 (lv_at hl 0 rfl) ?_
          have hb_22 := hB 4 ((4 * q) + 1)
          refine tl_ci (t_V (n := 1) (ci := 8) C hml hS (m2_from l X σ_1 mo ad M1 hM1 hI1 (q) (by omega)) q1805 q1807 qs25 q53 q1808 (by decide +kernel) hm rfl rfl hl.1 rfl (Nat.le_of_ble_eq_true rfl) dX2_cuts_40 ⟨Nat.le_of_ble_eq_true rfl, Nat.le_of_ble_eq_true rfl⟩ ⟨Nat.le_refl _, Nat.le_refl _⟩) hS (fun r_23 σ_25 H locs hP_24 hS => ?_)
          obtain ⟨rfl, rfl⟩ := hP_24
          refine ti_if_le (tgt := 73) C.1 C.2.1 dX2_cuts_43 (by decide) ⟨by omega, by omega⟩ (fun hc_26 => ?_) (fun hc_26 => ?_)
          · skip
            refine lv_aload_n C.1 C.2.1 dX2_cuts_73 rfl (lv_at hl 3 rfl) ?_
            refine lv_iload C.1 C.2.1 dX2_cuts_74 (lv_at hl 0 rfl) ?_
            have hb_27 := hB 4 ((4 * q) + 2)
            refine tl_ci (t_V (n := 1) (ci := 8) C hml hS (m2_to l X σ_1 mo ad M1 hM1 hI1 (q) (by omega)) q1809 q1811 qs26 q53 q1812 (by decide +kernel) hm rfl rfl hl.1 rfl (Nat.le_of_ble_eq_true rfl) dX2_cuts_76 ⟨Nat.le_of_ble_eq_true rfl, Nat.le_of_ble_eq_true rfl⟩ ⟨Nat.le_refl _, Nat.le_refl _⟩) hS (fun r_28 σ_30 H locs hP_29 hS => ?_)
            obtain ⟨rfl, rfl⟩ := hP_29
            refine lv_aload_n C.1 C.2.1 dX2_cuts_79 rfl (lv_at hl 3 rfl) ?_
            refine lv_iload_n C.1 C.2.1 dX2_cuts_80 rfl (lv_at hl 4 rfl) ?_
            have hb_31 := hB 0 (3 * b)
            refine tl_ci (t_V (n := 1) (ci := 8) C hml hS (m2_length l X σ_1 mo ad M1 hM1 hI1 (b) (by omega)) q1797 q1799 qs23 q53 q1800 (by decide +kernel) hm rfl rfl hl.1 rfl (Nat.le_of_ble_eq_true rfl) dX2_cuts_81 ⟨Nat.le_of_ble_eq_true rfl, Nat.le_of_ble_eq_true rfl⟩ ⟨Nat.le_refl _, Nat.le_refl _⟩) hS (fun r_32 σ_34 H locs hP_33 hS => ?_)
            obtain ⟨rfl, rfl⟩ := hP_33
            refine ti_icmp_ge (tgt := 90) C.1 C.2.1 dX2_cuts_84 (by decide) ⟨by omega, by omega⟩ ⟨by omega, by omega⟩ (fun hc_35 => ?_) (fun hc_35 => ?_)
            · skip
              refine lv_iload C.1 C.2.1 dX2_cuts_90 (lv_at hl 0 rfl) ?_
              refine lv_istore_n (lv' := [(3, .int (iI (q))), (4, .int (iI (q))), (2, .int (iI (many))), (0, .ref (mo)), (1, .int (iI (b)))]) C.1 C.2.1 dX2_cuts_92 rfl hl (by decide) rfl (fun ls hl => ?_)
              refine lv_aload_n C.1 C.2.1 dX2_cuts_93 rfl (lv_at hl 3 rfl) ?_
              refine lv_iload_n C.1 C.2.1 dX2_cuts_94 rfl (lv_at hl 4 rfl) ?_
              refine lv_aload_n C.1 C.2.1 dX2_cuts_95 rfl (lv_at hl 3 rfl) ?_
              refine lv_iload C.1 C.2.1 dX2_cuts_96 (lv_at hl 1 rfl) ?_
              have hb_36 := hB 4 ((4 * q) + 2)
              refine tl_ci (t_V (n := 1) (ci := 8) C hml hS (m2_to l X σ_1 mo ad M1 hM1 hI1 (q) (by omega)) q1809 q1811 qs26 q53 q1812 (by decide +kernel) hm rfl rfl hl.1 rfl (Nat.le_of_ble_eq_true rfl) dX2_cuts_98 ⟨Nat.le_of_ble_eq_true rfl, Nat.le_of_ble_eq_true rfl⟩ ⟨Nat.le_refl _, Nat.le_refl _⟩) hS (fun r_37 σ_39 H locs hP_38 hS => ?_)
              obtain ⟨rfl, rfl⟩ := hP_38
              have hpf_40 := mPf_ok (M := M1) (by omega) (b) ((M1.2 4 ((4 * q) + 2)))
              refine tl_ci (t_V (n := 2) (ci := 8) C hml hS (m2_pieceFrom l X σ_1 mo ad M1 hM1 hI1 (b) ((M1.2 4 ((4 * q) + 2))) (by omega)) q1943 q1945 qs44 q53 q1946 (by decide +kernel) hm rfl rfl hl.1 rfl (Nat.le_of_ble_eq_true rfl) dX2_cuts_101 ⟨Nat.le_of_ble_eq_true rfl, Nat.le_of_ble_eq_true rfl⟩ ⟨Nat.le_refl _, Nat.le_refl _⟩) hS (fun r_41 σ_43 H locs hP_42 hS => ?_)
              obtain ⟨rfl, rfl⟩ := hP_42
              refine lv_istore (lv' := [(4, .int (iI ((mPieceFrom M1 b (M1.2 4 ((4 * q) + 2)))))), (3, .int (iI (q))), (2, .int (iI (many))), (0, .ref (mo)), (1, .int (iI (b)))]) C.1 C.2.1 dX2_cuts_104 hl (by decide) rfl (fun ls hl => ?_)
              refine lv_goto (tgt := 31) C.1 C.2.1 dX2_cuts_106 (by decide) ?_
              exact ih_19 (many) (q) ((mPieceFrom M1 b (M1.2 4 ((4 * q) + 2)))) (M1.2 4 (4 * q + 2)) ⟨by omega, by (rw [← hR]; show _ = (if _ then _ else _); (repeat (first | rw [if_pos (by omega)] | rw [if_neg (by omega)])))⟩ (by omega) _ _ _ hS (lv_sub hl [0, 1, 2, 3, 4] rfl)
            · skip
              refine ti_iinc (lv' := [(2, .int (iI ((many + 1)))), (4, .int (iI (q))), (3, .int (iI (bf))), (0, .ref (mo)), (1, .int (iI (b)))]) C.1 C.2.1 dX2_cuts_87 hl (k := 2) rfl (by decide) rfl (fun ls hl => ?_)
              refine lv_iload C.1 C.2.1 dX2_cuts_90 (lv_at hl 1 rfl) ?_
              refine lv_istore_n (lv' := [(3, .int (iI (q))), (2, .int (iI ((many + 1)))), (4, .int (iI (q))), (0, .ref (mo)), (1, .int (iI (b)))]) C.1 C.2.1 dX2_cuts_92 rfl hl (by decide) rfl (fun ls hl => ?_)
              refine lv_aload_n C.1 C.2.1 dX2_cuts_93 rfl (lv_at hl 3 rfl) ?_
              refine lv_iload_n C.1 C.2.1 dX2_cuts_94 rfl (lv_at hl 4 rfl) ?_
              refine lv_aload_n C.1 C.2.1 dX2_cuts_95 rfl (lv_at hl 3 rfl) ?_
              refine lv_iload C.1 C.2.1 dX2_cuts_96 (lv_at hl 2 rfl) ?_
              have hb_44 := hB 4 ((4 * q) + 2)
              refine tl_ci (t_V (n := 1) (ci := 8) C hml hS (m2_to l X σ_1 mo ad M1 hM1 hI1 (q) (by omega)) q1809 q1811 qs26 q53 q1812 (by decide +kernel) hm rfl rfl hl.1 rfl (Nat.le_of_ble_eq_true rfl) dX2_cuts_98 ⟨Nat.le_of_ble_eq_true rfl, Nat.le_of_ble_eq_true rfl⟩ ⟨Nat.le_refl _, Nat.le_refl _⟩) hS (fun r_45 σ_47 H locs hP_46 hS => ?_)
              obtain ⟨rfl, rfl⟩ := hP_46
              have hpf_48 := mPf_ok (M := M1) (by omega) (b) ((M1.2 4 ((4 * q) + 2)))
              refine tl_ci (t_V (n := 2) (ci := 8) C hml hS (m2_pieceFrom l X σ_1 mo ad M1 hM1 hI1 (b) ((M1.2 4 ((4 * q) + 2))) (by omega)) q1943 q1945 qs44 q53 q1946 (by decide +kernel) hm rfl rfl hl.1 rfl (Nat.le_of_ble_eq_true rfl) dX2_cuts_101 ⟨Nat.le_of_ble_eq_true rfl, Nat.le_of_ble_eq_true rfl⟩ ⟨Nat.le_refl _, Nat.le_refl _⟩) hS (fun r_49 σ_51 H locs hP_50 hS => ?_)
              obtain ⟨rfl, rfl⟩ := hP_50
              refine lv_istore (lv' := [(4, .int (iI ((mPieceFrom M1 b (M1.2 4 ((4 * q) + 2)))))), (3, .int (iI (q))), (2, .int (iI ((many + 1)))), (0, .ref (mo)), (1, .int (iI (b)))]) C.1 C.2.1 dX2_cuts_104 hl (by decide) rfl (fun ls hl => ?_)
              refine lv_goto (tgt := 31) C.1 C.2.1 dX2_cuts_106 (by decide) ?_
              exact ih_19 ((many + 1)) (q) ((mPieceFrom M1 b (M1.2 4 ((4 * q) + 2)))) (M1.2 4 (4 * q + 2)) ⟨by omega, by (rw [← hR]; show _ = (if _ then _ else _); (repeat (first | rw [if_pos (by omega)] | rw [if_neg (by omega)])))⟩ (by omega) _ _ _ hS (lv_sub hl [0, 1, 2, 3, 4] rfl)
          · skip
            refine lv_iload_n C.1 C.2.1 dX2_cuts_46 rfl (lv_at hl 1 rfl) ?_
            refine ti_const C.1 C.2.1 dX2_cuts_47 ?_
            refine ti_icmp_eq (tgt := 70) C.1 C.2.1 dX2_cuts_48 (by decide) ⟨by omega, by omega⟩ ⟨by decide, by decide⟩ (fun hc_52 => ?_) (fun hc_52 => ?_)
            · skip
              refine ti_iinc (lv' := [(2, .int (iI ((many + 1)))), (4, .int (iI (q))), (3, .int (iI (bf))), (0, .ref (mo)), (1, .int (iI (b)))]) C.1 C.2.1 dX2_cuts_70 hl (k := 2) rfl (by decide) rfl (fun ls hl => ?_)
              refine lv_aload_n C.1 C.2.1 dX2_cuts_73 rfl (lv_at hl 3 rfl) ?_
              refine lv_iload C.1 C.2.1 dX2_cuts_74 (lv_at hl 1 rfl) ?_
              have hb_53 := hB 4 ((4 * q) + 2)
              refine tl_ci (t_V (n := 1) (ci := 8) C hml hS (m2_to l X σ_1 mo ad M1 hM1 hI1 (q) (by omega)) q1809 q1811 qs26 q53 q1812 (by decide +kernel) hm rfl rfl hl.1 rfl (Nat.le_of_ble_eq_true rfl) dX2_cuts_76 ⟨Nat.le_of_ble_eq_true rfl, Nat.le_of_ble_eq_true rfl⟩ ⟨Nat.le_refl _, Nat.le_refl _⟩) hS (fun r_54 σ_56 H locs hP_55 hS => ?_)
              obtain ⟨rfl, rfl⟩ := hP_55
              refine lv_aload_n C.1 C.2.1 dX2_cuts_79 rfl (lv_at hl 3 rfl) ?_
              refine lv_iload_n C.1 C.2.1 dX2_cuts_80 rfl (lv_at hl 4 rfl) ?_
              have hb_57 := hB 0 (3 * b)
              refine tl_ci (t_V (n := 1) (ci := 8) C hml hS (m2_length l X σ_1 mo ad M1 hM1 hI1 (b) (by omega)) q1797 q1799 qs23 q53 q1800 (by decide +kernel) hm rfl rfl hl.1 rfl (Nat.le_of_ble_eq_true rfl) dX2_cuts_81 ⟨Nat.le_of_ble_eq_true rfl, Nat.le_of_ble_eq_true rfl⟩ ⟨Nat.le_refl _, Nat.le_refl _⟩) hS (fun r_58 σ_60 H locs hP_59 hS => ?_)
              obtain ⟨rfl, rfl⟩ := hP_59
              refine ti_icmp_ge (tgt := 90) C.1 C.2.1 dX2_cuts_84 (by decide) ⟨by omega, by omega⟩ ⟨by omega, by omega⟩ (fun hc_61 => ?_) (fun hc_61 => ?_)
              · skip
                refine lv_iload C.1 C.2.1 dX2_cuts_90 (lv_at hl 1 rfl) ?_
                refine lv_istore_n (lv' := [(3, .int (iI (q))), (2, .int (iI ((many + 1)))), (4, .int (iI (q))), (0, .ref (mo)), (1, .int (iI (b)))]) C.1 C.2.1 dX2_cuts_92 rfl hl (by decide) rfl (fun ls hl => ?_)
                refine lv_aload_n C.1 C.2.1 dX2_cuts_93 rfl (lv_at hl 3 rfl) ?_
                refine lv_iload_n C.1 C.2.1 dX2_cuts_94 rfl (lv_at hl 4 rfl) ?_
                refine lv_aload_n C.1 C.2.1 dX2_cuts_95 rfl (lv_at hl 3 rfl) ?_
                refine lv_iload C.1 C.2.1 dX2_cuts_96 (lv_at hl 2 rfl) ?_
                have hb_62 := hB 4 ((4 * q) + 2)
                refine tl_ci (t_V (n := 1) (ci := 8) C hml hS (m2_to l X σ_1 mo ad M1 hM1 hI1 (q) (by omega)) q1809 q1811 qs26 q53 q1812 (by decide +kernel) hm rfl rfl hl.1 rfl (Nat.le_of_ble_eq_true rfl) dX2_cuts_98 ⟨Nat.le_of_ble_eq_true rfl, Nat.le_of_ble_eq_true rfl⟩ ⟨Nat.le_refl _, Nat.le_refl _⟩) hS (fun r_63 σ_65 H locs hP_64 hS => ?_)
                obtain ⟨rfl, rfl⟩ := hP_64
                have hpf_66 := mPf_ok (M := M1) (by omega) (b) ((M1.2 4 ((4 * q) + 2)))
                refine tl_ci (t_V (n := 2) (ci := 8) C hml hS (m2_pieceFrom l X σ_1 mo ad M1 hM1 hI1 (b) ((M1.2 4 ((4 * q) + 2))) (by omega)) q1943 q1945 qs44 q53 q1946 (by decide +kernel) hm rfl rfl hl.1 rfl (Nat.le_of_ble_eq_true rfl) dX2_cuts_101 ⟨Nat.le_of_ble_eq_true rfl, Nat.le_of_ble_eq_true rfl⟩ ⟨Nat.le_refl _, Nat.le_refl _⟩) hS (fun r_67 σ_69 H locs hP_68 hS => ?_)
                obtain ⟨rfl, rfl⟩ := hP_68
                refine lv_istore (lv' := [(4, .int (iI ((mPieceFrom M1 b (M1.2 4 ((4 * q) + 2)))))), (3, .int (iI (q))), (2, .int (iI ((many + 1)))), (0, .ref (mo)), (1, .int (iI (b)))]) C.1 C.2.1 dX2_cuts_104 hl (by decide) rfl (fun ls hl => ?_)
                refine lv_goto (tgt := 31) C.1 C.2.1 dX2_cuts_106 (by decide) ?_
                exact ih_19 ((many + 1)) (q) ((mPieceFrom M1 b (M1.2 4 ((4 * q) + 2)))) (M1.2 4 (4 * q + 2)) ⟨by omega, by (rw [← hR]; show _ = (if _ then _ else _); (repeat (first | rw [if_pos (by omega)] | rw [if_neg (by omega)])))⟩ (by omega) _ _ _ hS (lv_sub hl [0, 1, 2, 3, 4] rfl)
              · skip
                refine ti_iinc (lv' := [(2, .int (iI (((many + 1) + 1)))), (4, .int (iI (q))), (3, .int (iI (bf))), (0, .ref (mo)), (1, .int (iI (b)))]) C.1 C.2.1 dX2_cuts_87 hl (k := 0) rfl (by decide) rfl (fun ls hl => ?_)
                refine lv_iload C.1 C.2.1 dX2_cuts_90 (lv_at hl 1 rfl) ?_
                refine lv_istore_n (lv' := [(3, .int (iI (q))), (2, .int (iI (((many + 1) + 1)))), (4, .int (iI (q))), (0, .ref (mo)), (1, .int (iI (b)))]) C.1 C.2.1 dX2_cuts_92 rfl hl (by decide) rfl (fun ls hl => ?_)
                refine lv_aload_n C.1 C.2.1 dX2_cuts_93 rfl (lv_at hl 3 rfl) ?_
                refine lv_iload_n C.1 C.2.1 dX2_cuts_94 rfl (lv_at hl 4 rfl) ?_
                refine lv_aload_n C.1 C.2.1 dX2_cuts_95 rfl (lv_at hl 3 rfl) ?_
                refine lv_iload C.1 C.2.1 dX2_cuts_96 (lv_at hl 2 rfl) ?_
                have hb_70 := hB 4 ((4 * q) + 2)
                refine tl_ci (t_V (n := 1) (ci := 8) C hml hS (m2_to l X σ_1 mo ad M1 hM1 hI1 (q) (by omega)) q1809 q1811 qs26 q53 q1812 (by decide +kernel) hm rfl rfl hl.1 rfl (Nat.le_of_ble_eq_true rfl) dX2_cuts_98 ⟨Nat.le_of_ble_eq_true rfl, Nat.le_of_ble_eq_true rfl⟩ ⟨Nat.le_refl _, Nat.le_refl _⟩) hS (fun r_71 σ_73 H locs hP_72 hS => ?_)
                obtain ⟨rfl, rfl⟩ := hP_72
                have hpf_74 := mPf_ok (M := M1) (by omega) (b) ((M1.2 4 ((4 * q) + 2)))
                refine tl_ci (t_V (n := 2) (ci := 8) C hml hS (m2_pieceFrom l X σ_1 mo ad M1 hM1 hI1 (b) ((M1.2 4 ((4 * q) + 2))) (by omega)) q1943 q1945 qs44 q53 q1946 (by decide +kernel) hm rfl rfl hl.1 rfl (Nat.le_of_ble_eq_true rfl) dX2_cuts_101 ⟨Nat.le_of_ble_eq_true rfl, Nat.le_of_ble_eq_true rfl⟩ ⟨Nat.le_refl _, Nat.le_refl _⟩) hS (fun r_75 σ_77 H locs hP_76 hS => ?_)
                obtain ⟨rfl, rfl⟩ := hP_76
                refine lv_istore (lv' := [(4, .int (iI ((mPieceFrom M1 b (M1.2 4 ((4 * q) + 2)))))), (3, .int (iI (q))), (2, .int (iI (((many + 1) + 1)))), (0, .ref (mo)), (1, .int (iI (b)))]) C.1 C.2.1 dX2_cuts_104 hl (by decide) rfl (fun ls hl => ?_)
                refine lv_goto (tgt := 31) C.1 C.2.1 dX2_cuts_106 (by decide) ?_
                exact ih_19 (((many + 1) + 1)) (q) ((mPieceFrom M1 b (M1.2 4 ((4 * q) + 2)))) (M1.2 4 (4 * q + 2)) ⟨by omega, by (rw [← hR]; show _ = (if _ then _ else _); (repeat (first | rw [if_pos (by omega)] | rw [if_neg (by omega)])))⟩ (by omega) _ _ _ hS (lv_sub hl [0, 1, 2, 3, 4] rfl)
            · skip
              refine lv_aload_n C.1 C.2.1 dX2_cuts_51 rfl (lv_at hl 3 rfl) ?_
              refine lv_iload C.1 C.2.1 dX2_cuts_52 (lv_at hl 0 rfl) ?_
              have hb_78 := hB 4 ((4 * q) + 1)
              refine tl_ci (t_V (n := 1) (ci := 8) C hml hS (m2_from l X σ_1 mo ad M1 hM1 hI1 (q) (by omega)) q1805 q1807 qs25 q53 q1808 (by decide +kernel) hm rfl rfl hl.1 rfl (Nat.le_of_ble_eq_true rfl) dX2_cuts_54 ⟨Nat.le_of_ble_eq_true rfl, Nat.le_of_ble_eq_true rfl⟩ ⟨Nat.le_refl _, Nat.le_refl _⟩) hS (fun r_79 σ_81 H locs hP_80 hS => ?_)
              obtain ⟨rfl, rfl⟩ := hP_80
              refine lv_aload_n C.1 C.2.1 dX2_cuts_57 rfl (lv_at hl 3 rfl) ?_
              refine lv_iload_n C.1 C.2.1 dX2_cuts_58 rfl (lv_at hl 1 rfl) ?_
              have hb_82 := hB 4 ((4 * bf) + 2)
              refine tl_ci (t_V (n := 1) (ci := 8) C hml hS (m2_to l X σ_1 mo ad M1 hM1 hI1 (bf) (by omega)) q1809 q1811 qs26 q53 q1812 (by decide +kernel) hm rfl rfl hl.1 rfl (Nat.le_of_ble_eq_true rfl) dX2_cuts_59 ⟨Nat.le_of_ble_eq_true rfl, Nat.le_of_ble_eq_true rfl⟩ ⟨Nat.le_refl _, Nat.le_refl _⟩) hS (fun r_83 σ_85 H locs hP_84 hS => ?_)
              obtain ⟨rfl, rfl⟩ := hP_84
              refine ti_isub C.1 C.2.1 dX2_cuts_62 ?_
              refine lv_aload_n C.1 C.2.1 dX2_cuts_63 rfl (lv_at hl 3 rfl) ?_
              refine gf_X2_23_8 C hS hm rfl dX2_cuts_64 ?_
              refine ti_icmp_eq (tgt := 73) C.1 C.2.1 dX2_cuts_67 (by decide) ⟨by omega, by omega⟩ ⟨by omega, by omega⟩ (fun hc_86 => ?_) (fun hc_86 => ?_)
              · skip
                refine lv_aload_n C.1 C.2.1 dX2_cuts_73 rfl (lv_at hl 3 rfl) ?_
                refine lv_iload C.1 C.2.1 dX2_cuts_74 (lv_at hl 0 rfl) ?_
                have hb_87 := hB 4 ((4 * q) + 2)
                refine tl_ci (t_V (n := 1) (ci := 8) C hml hS (m2_to l X σ_1 mo ad M1 hM1 hI1 (q) (by omega)) q1809 q1811 qs26 q53 q1812 (by decide +kernel) hm rfl rfl hl.1 rfl (Nat.le_of_ble_eq_true rfl) dX2_cuts_76 ⟨Nat.le_of_ble_eq_true rfl, Nat.le_of_ble_eq_true rfl⟩ ⟨Nat.le_refl _, Nat.le_refl _⟩) hS (fun r_88 σ_90 H locs hP_89 hS => ?_)
                obtain ⟨rfl, rfl⟩ := hP_89
                refine lv_aload_n C.1 C.2.1 dX2_cuts_79 rfl (lv_at hl 3 rfl) ?_
                refine lv_iload_n C.1 C.2.1 dX2_cuts_80 rfl (lv_at hl 4 rfl) ?_
                have hb_91 := hB 0 (3 * b)
                refine tl_ci (t_V (n := 1) (ci := 8) C hml hS (m2_length l X σ_1 mo ad M1 hM1 hI1 (b) (by omega)) q1797 q1799 qs23 q53 q1800 (by decide +kernel) hm rfl rfl hl.1 rfl (Nat.le_of_ble_eq_true rfl) dX2_cuts_81 ⟨Nat.le_of_ble_eq_true rfl, Nat.le_of_ble_eq_true rfl⟩ ⟨Nat.le_refl _, Nat.le_refl _⟩) hS (fun r_92 σ_94 H locs hP_93 hS => ?_)
                obtain ⟨rfl, rfl⟩ := hP_93
                refine ti_icmp_ge (tgt := 90) C.1 C.2.1 dX2_cuts_84 (by decide) ⟨by omega, by omega⟩ ⟨by omega, by omega⟩ (fun hc_95 => ?_) (fun hc_95 => ?_)
                · skip
                  refine lv_iload C.1 C.2.1 dX2_cuts_90 (lv_at hl 0 rfl) ?_
                  refine lv_istore_n (lv' := [(3, .int (iI (q))), (4, .int (iI (q))), (2, .int (iI (many))), (0, .ref (mo)), (1, .int (iI (b)))]) C.1 C.2.1 dX2_cuts_92 rfl hl (by decide) rfl (fun ls hl => ?_)
                  refine lv_aload_n C.1 C.2.1 dX2_cuts_93 rfl (lv_at hl 3 rfl) ?_
                  refine lv_iload_n C.1 C.2.1 dX2_cuts_94 rfl (lv_at hl 4 rfl) ?_
                  refine lv_aload_n C.1 C.2.1 dX2_cuts_95 rfl (lv_at hl 3 rfl) ?_
                  refine lv_iload C.1 C.2.1 dX2_cuts_96 (lv_at hl 1 rfl) ?_
                  have hb_96 := hB 4 ((4 * q) + 2)
                  refine tl_ci (t_V (n := 1) (ci := 8) C hml hS (m2_to l X σ_1 mo ad M1 hM1 hI1 (q) (by omega)) q1809 q1811 qs26 q53 q1812 (by decide +kernel) hm rfl rfl hl.1 rfl (Nat.le_of_ble_eq_true rfl) dX2_cuts_98 ⟨Nat.le_of_ble_eq_true rfl, Nat.le_of_ble_eq_true rfl⟩ ⟨Nat.le_refl _, Nat.le_refl _⟩) hS (fun r_97 σ_99 H locs hP_98 hS => ?_)
                  obtain ⟨rfl, rfl⟩ := hP_98
                  have hpf_100 := mPf_ok (M := M1) (by omega) (b) ((M1.2 4 ((4 * q) + 2)))
                  refine tl_ci (t_V (n := 2) (ci := 8) C hml hS (m2_pieceFrom l X σ_1 mo ad M1 hM1 hI1 (b) ((M1.2 4 ((4 * q) + 2))) (by omega)) q1943 q1945 qs44 q53 q1946 (by decide +kernel) hm rfl rfl hl.1 rfl (Nat.le_of_ble_eq_true rfl) dX2_cuts_101 ⟨Nat.le_of_ble_eq_true rfl, Nat.le_of_ble_eq_true rfl⟩ ⟨Nat.le_refl _, Nat.le_refl _⟩) hS (fun r_101 σ_103 H locs hP_102 hS => ?_)
                  obtain ⟨rfl, rfl⟩ := hP_102
                  refine lv_istore (lv' := [(4, .int (iI ((mPieceFrom M1 b (M1.2 4 ((4 * q) + 2)))))), (3, .int (iI (q))), (2, .int (iI (many))), (0, .ref (mo)), (1, .int (iI (b)))]) C.1 C.2.1 dX2_cuts_104 hl (by decide) rfl (fun ls hl => ?_)
                  refine lv_goto (tgt := 31) C.1 C.2.1 dX2_cuts_106 (by decide) ?_
                  exact ih_19 (many) (q) ((mPieceFrom M1 b (M1.2 4 ((4 * q) + 2)))) (M1.2 4 (4 * q + 2)) ⟨by omega, by (rw [← hR]; show _ = (if _ then _ else _); (repeat (first | rw [if_pos (by omega)] | rw [if_neg (by omega)])))⟩ (by omega) _ _ _ hS (lv_sub hl [0, 1, 2, 3, 4] rfl)
                · skip
                  refine ti_iinc (lv' := [(2, .int (iI ((many + 1)))), (4, .int (iI (q))), (3, .int (iI (bf))), (0, .ref (mo)), (1, .int (iI (b)))]) C.1 C.2.1 dX2_cuts_87 hl (k := 2) rfl (by decide) rfl (fun ls hl => ?_)
                  refine lv_iload C.1 C.2.1 dX2_cuts_90 (lv_at hl 1 rfl) ?_
                  refine lv_istore_n (lv' := [(3, .int (iI (q))), (2, .int (iI ((many + 1)))), (4, .int (iI (q))), (0, .ref (mo)), (1, .int (iI (b)))]) C.1 C.2.1 dX2_cuts_92 rfl hl (by decide) rfl (fun ls hl => ?_)
                  refine lv_aload_n C.1 C.2.1 dX2_cuts_93 rfl (lv_at hl 3 rfl) ?_
                  refine lv_iload_n C.1 C.2.1 dX2_cuts_94 rfl (lv_at hl 4 rfl) ?_
                  refine lv_aload_n C.1 C.2.1 dX2_cuts_95 rfl (lv_at hl 3 rfl) ?_
                  refine lv_iload C.1 C.2.1 dX2_cuts_96 (lv_at hl 2 rfl) ?_
                  have hb_104 := hB 4 ((4 * q) + 2)
                  refine tl_ci (t_V (n := 1) (ci := 8) C hml hS (m2_to l X σ_1 mo ad M1 hM1 hI1 (q) (by omega)) q1809 q1811 qs26 q53 q1812 (by decide +kernel) hm rfl rfl hl.1 rfl (Nat.le_of_ble_eq_true rfl) dX2_cuts_98 ⟨Nat.le_of_ble_eq_true rfl, Nat.le_of_ble_eq_true rfl⟩ ⟨Nat.le_refl _, Nat.le_refl _⟩) hS (fun r_105 σ_107 H locs hP_106 hS => ?_)
                  obtain ⟨rfl, rfl⟩ := hP_106
                  have hpf_108 := mPf_ok (M := M1) (by omega) (b) ((M1.2 4 ((4 * q) + 2)))
                  refine tl_ci (t_V (n := 2) (ci := 8) C hml hS (m2_pieceFrom l X σ_1 mo ad M1 hM1 hI1 (b) ((M1.2 4 ((4 * q) + 2))) (by omega)) q1943 q1945 qs44 q53 q1946 (by decide +kernel) hm rfl rfl hl.1 rfl (Nat.le_of_ble_eq_true rfl) dX2_cuts_101 ⟨Nat.le_of_ble_eq_true rfl, Nat.le_of_ble_eq_true rfl⟩ ⟨Nat.le_refl _, Nat.le_refl _⟩) hS (fun r_109 σ_111 H locs hP_110 hS => ?_)
                  obtain ⟨rfl, rfl⟩ := hP_110
                  refine lv_istore (lv' := [(4, .int (iI ((mPieceFrom M1 b (M1.2 4 ((4 * q) + 2)))))), (3, .int (iI (q))), (2, .int (iI ((many + 1)))), (0, .ref (mo)), (1, .int (iI (b)))]) C.1 C.2.1 dX2_cuts_104 hl (by decide) rfl (fun ls hl => ?_)
                  refine lv_goto (tgt := 31) C.1 C.2.1 dX2_cuts_106 (by decide) ?_
                  exact ih_19 ((many + 1)) (q) ((mPieceFrom M1 b (M1.2 4 ((4 * q) + 2)))) (M1.2 4 (4 * q + 2)) ⟨by omega, by (rw [← hR]; show _ = (if _ then _ else _); (repeat (first | rw [if_pos (by omega)] | rw [if_neg (by omega)])))⟩ (by omega) _ _ _ hS (lv_sub hl [0, 1, 2, 3, 4] rfl)
              · skip
                refine ti_iinc (lv' := [(2, .int (iI ((many + 1)))), (4, .int (iI (q))), (3, .int (iI (bf))), (0, .ref (mo)), (1, .int (iI (b)))]) C.1 C.2.1 dX2_cuts_70 hl (k := 2) rfl (by decide) rfl (fun ls hl => ?_)
                refine lv_aload_n C.1 C.2.1 dX2_cuts_73 rfl (lv_at hl 3 rfl) ?_
                refine lv_iload C.1 C.2.1 dX2_cuts_74 (lv_at hl 1 rfl) ?_
                have hb_112 := hB 4 ((4 * q) + 2)
                refine tl_ci (t_V (n := 1) (ci := 8) C hml hS (m2_to l X σ_1 mo ad M1 hM1 hI1 (q) (by omega)) q1809 q1811 qs26 q53 q1812 (by decide +kernel) hm rfl rfl hl.1 rfl (Nat.le_of_ble_eq_true rfl) dX2_cuts_76 ⟨Nat.le_of_ble_eq_true rfl, Nat.le_of_ble_eq_true rfl⟩ ⟨Nat.le_refl _, Nat.le_refl _⟩) hS (fun r_113 σ_115 H locs hP_114 hS => ?_)
                obtain ⟨rfl, rfl⟩ := hP_114
                refine lv_aload_n C.1 C.2.1 dX2_cuts_79 rfl (lv_at hl 3 rfl) ?_
                refine lv_iload_n C.1 C.2.1 dX2_cuts_80 rfl (lv_at hl 4 rfl) ?_
                have hb_116 := hB 0 (3 * b)
                refine tl_ci (t_V (n := 1) (ci := 8) C hml hS (m2_length l X σ_1 mo ad M1 hM1 hI1 (b) (by omega)) q1797 q1799 qs23 q53 q1800 (by decide +kernel) hm rfl rfl hl.1 rfl (Nat.le_of_ble_eq_true rfl) dX2_cuts_81 ⟨Nat.le_of_ble_eq_true rfl, Nat.le_of_ble_eq_true rfl⟩ ⟨Nat.le_refl _, Nat.le_refl _⟩) hS (fun r_117 σ_119 H locs hP_118 hS => ?_)
                obtain ⟨rfl, rfl⟩ := hP_118
                refine ti_icmp_ge (tgt := 90) C.1 C.2.1 dX2_cuts_84 (by decide) ⟨by omega, by omega⟩ ⟨by omega, by omega⟩ (fun hc_120 => ?_) (fun hc_120 => ?_)
                · skip
                  refine lv_iload C.1 C.2.1 dX2_cuts_90 (lv_at hl 1 rfl) ?_
                  refine lv_istore_n (lv' := [(3, .int (iI (q))), (2, .int (iI ((many + 1)))), (4, .int (iI (q))), (0, .ref (mo)), (1, .int (iI (b)))]) C.1 C.2.1 dX2_cuts_92 rfl hl (by decide) rfl (fun ls hl => ?_)
                  refine lv_aload_n C.1 C.2.1 dX2_cuts_93 rfl (lv_at hl 3 rfl) ?_
                  refine lv_iload_n C.1 C.2.1 dX2_cuts_94 rfl (lv_at hl 4 rfl) ?_
                  refine lv_aload_n C.1 C.2.1 dX2_cuts_95 rfl (lv_at hl 3 rfl) ?_
                  refine lv_iload C.1 C.2.1 dX2_cuts_96 (lv_at hl 2 rfl) ?_
                  have hb_121 := hB 4 ((4 * q) + 2)
                  refine tl_ci (t_V (n := 1) (ci := 8) C hml hS (m2_to l X σ_1 mo ad M1 hM1 hI1 (q) (by omega)) q1809 q1811 qs26 q53 q1812 (by decide +kernel) hm rfl rfl hl.1 rfl (Nat.le_of_ble_eq_true rfl) dX2_cuts_98 ⟨Nat.le_of_ble_eq_true rfl, Nat.le_of_ble_eq_true rfl⟩ ⟨Nat.le_refl _, Nat.le_refl _⟩) hS (fun r_122 σ_124 H locs hP_123 hS => ?_)
                  obtain ⟨rfl, rfl⟩ := hP_123
                  have hpf_125 := mPf_ok (M := M1) (by omega) (b) ((M1.2 4 ((4 * q) + 2)))
                  refine tl_ci (t_V (n := 2) (ci := 8) C hml hS (m2_pieceFrom l X σ_1 mo ad M1 hM1 hI1 (b) ((M1.2 4 ((4 * q) + 2))) (by omega)) q1943 q1945 qs44 q53 q1946 (by decide +kernel) hm rfl rfl hl.1 rfl (Nat.le_of_ble_eq_true rfl) dX2_cuts_101 ⟨Nat.le_of_ble_eq_true rfl, Nat.le_of_ble_eq_true rfl⟩ ⟨Nat.le_refl _, Nat.le_refl _⟩) hS (fun r_126 σ_128 H locs hP_127 hS => ?_)
                  obtain ⟨rfl, rfl⟩ := hP_127
                  refine lv_istore (lv' := [(4, .int (iI ((mPieceFrom M1 b (M1.2 4 ((4 * q) + 2)))))), (3, .int (iI (q))), (2, .int (iI ((many + 1)))), (0, .ref (mo)), (1, .int (iI (b)))]) C.1 C.2.1 dX2_cuts_104 hl (by decide) rfl (fun ls hl => ?_)
                  refine lv_goto (tgt := 31) C.1 C.2.1 dX2_cuts_106 (by decide) ?_
                  exact ih_19 ((many + 1)) (q) ((mPieceFrom M1 b (M1.2 4 ((4 * q) + 2)))) (M1.2 4 (4 * q + 2)) ⟨by omega, by (rw [← hR]; show _ = (if _ then _ else _); (repeat (first | rw [if_pos (by omega)] | rw [if_neg (by omega)])))⟩ (by omega) _ _ _ hS (lv_sub hl [0, 1, 2, 3, 4] rfl)
                · skip
                  refine ti_iinc (lv' := [(2, .int (iI (((many + 1) + 1)))), (4, .int (iI (q))), (3, .int (iI (bf))), (0, .ref (mo)), (1, .int (iI (b)))]) C.1 C.2.1 dX2_cuts_87 hl (k := 0) rfl (by decide) rfl (fun ls hl => ?_)
                  refine lv_iload C.1 C.2.1 dX2_cuts_90 (lv_at hl 1 rfl) ?_
                  refine lv_istore_n (lv' := [(3, .int (iI (q))), (2, .int (iI (((many + 1) + 1)))), (4, .int (iI (q))), (0, .ref (mo)), (1, .int (iI (b)))]) C.1 C.2.1 dX2_cuts_92 rfl hl (by decide) rfl (fun ls hl => ?_)
                  refine lv_aload_n C.1 C.2.1 dX2_cuts_93 rfl (lv_at hl 3 rfl) ?_
                  refine lv_iload_n C.1 C.2.1 dX2_cuts_94 rfl (lv_at hl 4 rfl) ?_
                  refine lv_aload_n C.1 C.2.1 dX2_cuts_95 rfl (lv_at hl 3 rfl) ?_
                  refine lv_iload C.1 C.2.1 dX2_cuts_96 (lv_at hl 2 rfl) ?_
                  have hb_129 := hB 4 ((4 * q) + 2)
                  refine tl_ci (t_V (n := 1) (ci := 8) C hml hS (m2_to l X σ_1 mo ad M1 hM1 hI1 (q) (by omega)) q1809 q1811 qs26 q53 q1812 (by decide +kernel) hm rfl rfl hl.1 rfl (Nat.le_of_ble_eq_true rfl) dX2_cuts_98 ⟨Nat.le_of_ble_eq_true rfl, Nat.le_of_ble_eq_true rfl⟩ ⟨Nat.le_refl _, Nat.le_refl _⟩) hS (fun r_130 σ_132 H locs hP_131 hS => ?_)
                  obtain ⟨rfl, rfl⟩ := hP_131
                  have hpf_133 := mPf_ok (M := M1) (by omega) (b) ((M1.2 4 ((4 * q) + 2)))
                  refine tl_ci (t_V (n := 2) (ci := 8) C hml hS (m2_pieceFrom l X σ_1 mo ad M1 hM1 hI1 (b) ((M1.2 4 ((4 * q) + 2))) (by omega)) q1943 q1945 qs44 q53 q1946 (by decide +kernel) hm rfl rfl hl.1 rfl (Nat.le_of_ble_eq_true rfl) dX2_cuts_101 ⟨Nat.le_of_ble_eq_true rfl, Nat.le_of_ble_eq_true rfl⟩ ⟨Nat.le_refl _, Nat.le_refl _⟩) hS (fun r_134 σ_136 H locs hP_135 hS => ?_)
                  obtain ⟨rfl, rfl⟩ := hP_135
                  refine lv_istore (lv' := [(4, .int (iI ((mPieceFrom M1 b (M1.2 4 ((4 * q) + 2)))))), (3, .int (iI (q))), (2, .int (iI (((many + 1) + 1)))), (0, .ref (mo)), (1, .int (iI (b)))]) C.1 C.2.1 dX2_cuts_104 hl (by decide) rfl (fun ls hl => ?_)
                  refine lv_goto (tgt := 31) C.1 C.2.1 dX2_cuts_106 (by decide) ?_
                  exact ih_19 (((many + 1) + 1)) (q) ((mPieceFrom M1 b (M1.2 4 ((4 * q) + 2)))) (M1.2 4 (4 * q + 2)) ⟨by omega, by (rw [← hR]; show _ = (if _ then _ else _); (repeat (first | rw [if_pos (by omega)] | rw [if_neg (by omega)])))⟩ (by omega) _ _ _ hS (lv_sub hl [0, 1, 2, 3, 4] rfl)
    exact loop_17 (20001) (0) ((-1)) ((mPieceFrom M1 b 0)) 0 ⟨by omega, rfl⟩ (by omega) _ _ _ hS (lv_sub hl [0, 1, 2, 3, 4] rfl)
  · skip
    refine lv_aload_n C.1 C.2.1 dX2_cuts_13 rfl (lv_at hl 0 rfl) ?_
    refine ti_const C.1 C.2.1 dX2_cuts_14 ?_
    refine tl_ci (t_V (n := 1) (ci := 8) C hml hS (m2_fail l X σ_1 mo ad M1 ⟨hm, h0, h1, h2, h3, h4, h5, hd⟩ (1)) q1785 q1787 qs21 q53 q1788 (by decide +kernel) hm rfl rfl hl.1 rfl (Nat.le_of_ble_eq_true rfl) dX2_cuts_15 ⟨Nat.le_of_ble_eq_true rfl, Nat.le_of_ble_eq_true rfl⟩ ⟨Nat.le_refl _, Nat.le_refl _⟩) hS (fun r_137 σ_139 H locs hP_138 hS => ?_)
    obtain ⟨rfl, hM_140, hfr9⟩ := hP_138
    have hfr := hfr.trans hfr9
    obtain ⟨hm_141, hm_142, hm_143, hm_144, hm_145, hm_146, hm_147, hd⟩ := id hM_140
    exact r_i C hr hlk hS (by rw [show mCuts M1 b = (0, (mset M1 0 (1))) from by (unfold mCuts; (repeat (first | rw [if_pos (by omega)] | rw [if_neg (by omega)])); try rfl)]; exact ⟨rfl, ⟨hm_141, hm_142, hm_143, hm_144, hm_145, hm_146, hm_147, hd⟩, hfr⟩) dX2_cuts_18

set_option maxHeartbeats 4000000 in
theorem m2_longestRoom (l : Launch) (X : tl_X) (σ : tl_H) (mo : Nat) (ad : Nat → Nat) (M : mS) (hM : MD X σ mo ad M) (hI : mI M) (b : Int) (hr : -2147483648 ≤ b ∧ b ≤ 2147483647) (hln : ∀ q, 0 ≤ q → q < M.1 6 → M.2 4 (4 * q + 1) < M.2 4 (4 * q + 2)) : tl_Met l X yX2_longestRoom cX2_longestRoom 5 ((Option.some FieldType.int)) 4 (0) (0) [.ref (mo), .int (iI (b))] σ (tl_Qi X (fun r σ' => r = iI (mLongest (mset M 0 0) b).1 ∧ MD X σ' mo ad (mLongest (mset M 0 0) b).2 ∧ mFr σ σ')) := by
  obtain ⟨M1, eM1⟩ : ∃ z, z = mset M 0 0 := ⟨_, rfl⟩
  rw [← eM1]
  have hln1 : ∀ q, 0 ≤ q → q < M1.1 6 → M1.2 4 (4 * q + 1) < M1.2 4 (4 * q + 2) := by rw [eM1]; exact hln
  refine tl_start (by decide) (Nat.le_of_ble_eq_true rfl) (fun p e s m below meth c ls C hr hml hlk hnm hS hl => ?_)
  have hl : lv_has ls 5 [(0, .ref (mo)), (1, .int (iI (b)))] := hl
  obtain ⟨hm, h0, h1, h2, h3, h4, h5, hd⟩ := id hM
  obtain ⟨hN, hB, hPt, hJ, hA, hWn⟩ := id hI
  have hfr : mFr σ σ := mFr.rf
  refine lv_aload_n C.1 C.2.1 dX2_longestRoom_0 rfl (lv_at hl 0 rfl) ?_
  refine ti_const C.1 C.2.1 dX2_longestRoom_1 ?_
  refine gp_X2_36_8 C hS hm rfl rfl (Nat.le_of_ble_eq_true rfl) dX2_longestRoom_2 (fun H locs hS => ?_)
  obtain ⟨σ_1, eσ_1⟩ : ∃ z, z = va_up σ (mo) (some (oO 8 [.int (iI (0)), .int (iI (M.1 1)), .ref (ad 0), .int (iI (M.1 2)), .ref (ad 1), .int (iI (M.1 3)), .ref (ad 2), .ref (ad 3), .int (iI (M.1 4)), .int (iI (M.1 5)), .int (iI (M.1 6)), .ref (ad 4), .ref (ad 5), .int (iI (M.1 7)), .int (iI (M.1 8))])) := ⟨_, rfl⟩
  have hS : tl_S X s σ_1 H locs := by rw [eσ_1]; exact hS
  have he_2 : σ_1 (mo) = some (oO 8 [.int (iI (0)), .int (iI (M.1 1)), .ref (ad 0), .int (iI (M.1 2)), .ref (ad 1), .int (iI (M.1 3)), .ref (ad 2), .ref (ad 3), .int (iI (M.1 4)), .int (iI (M.1 5)), .int (iI (M.1 6)), .ref (ad 4), .ref (ad 5), .int (iI (M.1 7)), .int (iI (M.1 8))]) := by rw [eσ_1]; exact up_s
  have he_3 := up_kp eσ_1 (Ne.symm (tl_neA hm h0)) h0
  have he_4 := up_kp eσ_1 (Ne.symm (tl_neA hm h1)) h1
  have he_5 := up_kp eσ_1 (Ne.symm (tl_neA hm h2)) h2
  have he_6 := up_kp eσ_1 (Ne.symm (tl_neA hm h3)) h3
  have he_7 := up_kp eσ_1 (Ne.symm (tl_neA hm h4)) h4
  have he_8 := up_kp eσ_1 (Ne.symm (tl_neA hm h5)) h5
  have hfr := hfr.up hm mK_o eσ_1
  have hM1 : MD X σ_1 mo ad M1 := by rw [eM1]; exact ⟨he_2, he_3, he_4, he_5, he_6, he_7, he_8, hd⟩
  have hI1 : mI M1 := by rw [eM1]; exact hI.t0 0 (by decide)
  obtain ⟨hm, h0, h1, h2, h3, h4, h5, hd⟩ := id hM1
  obtain ⟨hN, hB, hPt, hJ, hA, hWn⟩ := id hI1
  refine lv_aload_n C.1 C.2.1 dX2_longestRoom_5 rfl (lv_at hl 0 rfl) ?_
  refine lv_iload_n C.1 C.2.1 dX2_longestRoom_6 rfl (lv_at hl 1 rfl) ?_
  refine tl_ci (t_V (n := 1) (ci := 8) C hml hS (m2_isBoard l X σ_1 mo ad M1 hM1 hI1 (b) (by omega)) q1793 q1795 qs22 q53 q1796 (by decide +kernel) hm rfl rfl hl.1 rfl (Nat.le_of_ble_eq_true rfl) dX2_longestRoom_7 ⟨Nat.le_of_ble_eq_true rfl, Nat.le_of_ble_eq_true rfl⟩ ⟨Nat.le_refl _, Nat.le_refl _⟩) hS (fun r_9 σ_11 H locs hP_10 hS => ?_)
  obtain ⟨rfl, rfl⟩ := hP_10
  refine ti_tb_ne (tgt := 19) C.1 C.2.1 dX2_longestRoom_10 (by decide) (fun hc_12 => ?_) (fun hc_12 => ?_)
  · skip
    refine ti_const C.1 C.2.1 dX2_longestRoom_19 ?_
    refine lv_istore_n (lv' := [(2, .int (iI (0))), (0, .ref (mo)), (1, .int (iI (b)))]) C.1 C.2.1 dX2_longestRoom_20 rfl hl (by decide) rfl (fun ls hl => ?_)
    refine ti_const C.1 C.2.1 dX2_longestRoom_21 ?_
    refine lv_istore_n (lv' := [(3, .int (iI (0))), (2, .int (iI (0))), (0, .ref (mo)), (1, .int (iI (b)))]) C.1 C.2.1 dX2_longestRoom_22 rfl hl (by decide) rfl (fun ls hl => ?_)
    refine lv_aload_n C.1 C.2.1 dX2_longestRoom_23 rfl (lv_at hl 2 rfl) ?_
    refine lv_iload_n C.1 C.2.1 dX2_longestRoom_24 rfl (lv_at hl 3 rfl) ?_
    refine ti_const C.1 C.2.1 dX2_longestRoom_25 ?_
    have hpf_13 := mPf_ok (M := M1) (by omega) (b) (0)
    refine tl_ci (t_V (n := 2) (ci := 8) C hml hS (m2_pieceFrom l X σ_1 mo ad M1 hM1 hI1 (b) (0) (by omega)) q1943 q1945 qs44 q53 q1946 (by decide +kernel) hm rfl rfl hl.1 rfl (Nat.le_of_ble_eq_true rfl) dX2_longestRoom_26 ⟨Nat.le_of_ble_eq_true rfl, Nat.le_of_ble_eq_true rfl⟩ ⟨Nat.le_refl _, Nat.le_refl _⟩) hS (fun r_14 σ_16 H locs hP_15 hS => ?_)
    obtain ⟨rfl, rfl⟩ := hP_15
    refine lv_istore (lv' := [(4, .int (iI ((mPieceFrom M1 b 0)))), (3, .int (iI (0))), (2, .int (iI (0))), (0, .ref (mo)), (1, .int (iI (b)))]) C.1 C.2.1 dX2_longestRoom_29 hl (by decide) rfl (fun ls hl => ?_)
    have loop_17 : ∀ (n_18 : Nat) (lg : Int) (fr : Int) (q : Int) (lo : Int), (0 ≤ lo ∧ lo ≤ 9000 ∧ -60000 ≤ lg ∧ lg ≤ 60000 ∧ -20000 ≤ fr ∧ fr ≤ 20000 ∧ (q = -1 ∨ 0 ≤ q ∧ q < M1.1 6 ∧ lo ≤ M1.2 4 (4 * q + 1))) ∧ mLr M1 b n_18 lg fr q = mLr M1 b 20001 0 0 (mPieceFrom M1 b 0) → 20000 - lo < (n_18 : Int) → ∀ (H : Heap) (locs : List Loc) (ls : Array Slot), tl_S X s σ_1 H locs → lv_has ls 5 [(4, .int (iI (q))), (3, .int (iI (fr))), (2, .int (iI (lg))), (0, .ref (mo)), (1, .int (iI (b)))] → W p l e (tl_rm 4 (0) (0)) s m ([.ref (mo), .int (iI (b))] : List Value).toArray below meth c H locs (0) (0) (MQ below (tl_Qi X (fun r σ' => r = iI (mLongest M1 b).1 ∧ MD X σ' mo ad (mLongest M1 b).2 ∧ mFr σ σ')) ([.ref (mo), .int (iI (b))] : List Value).toArray s (0) (0) (tl_A X)) (F0 m 31 ls []) := by
      intro n_18
      induction n_18 with
      | zero => intro lg fr q lo hinv hms; omega
      | succ n_18 ih_19 =>
        intro lg fr q lo hinv hms_20  H locs ls hS hl
        obtain ⟨hv, hR⟩ := hinv
        have hl7 : q ≠ -1 → M1.2 4 (4 * q + 1) < M1.2 4 (4 * q + 2) := fun h => hln1 q (by omega) (by omega)
        have hb7 := hB 4 (4 * q + 1)
        have hb8 := hB 4 (4 * q + 2)
        refine lv_iload C.1 C.2.1 dX2_longestRoom_31 (lv_at hl 0 rfl) ?_
        refine ti_const C.1 C.2.1 dX2_longestRoom_33 ?_
        refine ti_icmp_eq (tgt := 83) C.1 C.2.1 dX2_longestRoom_34 (by decide) ⟨by omega, by omega⟩ ⟨by decide, by decide⟩ (fun hc_21 => ?_) (fun hc_21 => ?_)
        · skip
          refine lv_iload_n C.1 C.2.1 dX2_longestRoom_83 rfl (lv_at hl 2 rfl) ?_
          refine lv_aload_n C.1 C.2.1 dX2_longestRoom_84 rfl (lv_at hl 3 rfl) ?_
          refine lv_iload_n C.1 C.2.1 dX2_longestRoom_85 rfl (lv_at hl 4 rfl) ?_
          have hb_22 := hB 0 (3 * b)
          refine tl_ci (t_V (n := 1) (ci := 8) C hml hS (m2_length l X σ_1 mo ad M1 hM1 hI1 (b) (by omega)) q1797 q1799 qs23 q53 q1800 (by decide +kernel) hm rfl rfl hl.1 rfl (Nat.le_of_ble_eq_true rfl) dX2_longestRoom_86 ⟨Nat.le_of_ble_eq_true rfl, Nat.le_of_ble_eq_true rfl⟩ ⟨Nat.le_refl _, Nat.le_refl _⟩) hS (fun r_23 σ_25 H locs hP_24 hS => ?_)
          obtain ⟨rfl, rfl⟩ := hP_24
          refine lv_iload_n C.1 C.2.1 dX2_longestRoom_89 rfl (lv_at hl 1 rfl) ?_
          refine ti_isub C.1 C.2.1 dX2_longestRoom_90 ?_
          refine ti_max C hml hl.1 q1841 ⟨by omega, by omega⟩ ⟨by omega, by omega⟩ dX2_longestRoom_91 (by show 1 ≤ 4; decide) (by show 40 ≤ 40 * 4; decide) (Nat.le_of_ble_eq_true rfl) (Nat.le_refl _) (Nat.le_refl _) ?_
          exact r_i C hr hlk hS (by rw [show mLongest M1 b = ((max (lg) (((M1.2 0 (3 * b)) - fr))), M1) from by unfold mLongest; rw [if_pos (by omega), ← hR]; show ((if _ then _ else _), _) = _; rw [if_pos (by omega)]]; exact ⟨rfl, ⟨hm, h0, h1, h2, h3, h4, h5, hd⟩, hfr⟩) dX2_longestRoom_94
        · skip
          refine lv_iload_n C.1 C.2.1 dX2_longestRoom_37 rfl (lv_at hl 2 rfl) ?_
          refine lv_aload_n C.1 C.2.1 dX2_longestRoom_38 rfl (lv_at hl 3 rfl) ?_
          refine lv_iload C.1 C.2.1 dX2_longestRoom_39 (lv_at hl 0 rfl) ?_
          have hb_26 := hB 4 ((4 * q) + 1)
          refine tl_ci (t_V (n := 1) (ci := 8) C hml hS (m2_from l X σ_1 mo ad M1 hM1 hI1 (q) (by omega)) q1805 q1807 qs25 q53 q1808 (by decide +kernel) hm rfl rfl hl.1 rfl (Nat.le_of_ble_eq_true rfl) dX2_longestRoom_41 ⟨Nat.le_of_ble_eq_true rfl, Nat.le_of_ble_eq_true rfl⟩ ⟨Nat.le_refl _, Nat.le_refl _⟩) hS (fun r_27 σ_29 H locs hP_28 hS => ?_)
          obtain ⟨rfl, rfl⟩ := hP_28
          refine lv_aload_n C.1 C.2.1 dX2_longestRoom_44 rfl (lv_at hl 3 rfl) ?_
          refine gf_X2_23_8 C hS hm rfl dX2_longestRoom_45 ?_
          refine ti_isub C.1 C.2.1 dX2_longestRoom_48 ?_
          refine lv_iload_n C.1 C.2.1 dX2_longestRoom_49 rfl (lv_at hl 1 rfl) ?_
          refine ti_isub C.1 C.2.1 dX2_longestRoom_50 ?_
          refine ti_max C hml hl.1 q1841 ⟨by omega, by omega⟩ ⟨by omega, by omega⟩ dX2_longestRoom_51 (by show 1 ≤ 4; decide) (by show 40 ≤ 40 * 4; decide) (Nat.le_of_ble_eq_true rfl) (Nat.le_refl _) (Nat.le_refl _) ?_
          refine lv_istore_n (lv' := [(2, .int (iI ((max (lg) ((((M1.2 4 ((4 * q) + 1)) - M1.1 4) - fr)))))), (4, .int (iI (q))), (3, .int (iI (fr))), (0, .ref (mo)), (1, .int (iI (b)))]) C.1 C.2.1 dX2_longestRoom_54 rfl hl (by decide) rfl (fun ls hl => ?_)
          refine lv_aload_n C.1 C.2.1 dX2_longestRoom_55 rfl (lv_at hl 3 rfl) ?_
          refine lv_iload C.1 C.2.1 dX2_longestRoom_56 (lv_at hl 1 rfl) ?_
          have hb_30 := hB 4 ((4 * q) + 2)
          refine tl_ci (t_V (n := 1) (ci := 8) C hml hS (m2_to l X σ_1 mo ad M1 hM1 hI1 (q) (by omega)) q1809 q1811 qs26 q53 q1812 (by decide +kernel) hm rfl rfl hl.1 rfl (Nat.le_of_ble_eq_true rfl) dX2_longestRoom_58 ⟨Nat.le_of_ble_eq_true rfl, Nat.le_of_ble_eq_true rfl⟩ ⟨Nat.le_refl _, Nat.le_refl _⟩) hS (fun r_31 σ_33 H locs hP_32 hS => ?_)
          obtain ⟨rfl, rfl⟩ := hP_32
          refine lv_aload_n C.1 C.2.1 dX2_longestRoom_61 rfl (lv_at hl 3 rfl) ?_
          refine gf_X2_23_8 C hS hm rfl dX2_longestRoom_62 ?_
          refine ti_iadd C.1 C.2.1 dX2_longestRoom_65 ?_
          refine lv_istore_n (lv' := [(3, .int (iI (((M1.2 4 ((4 * q) + 2)) + M1.1 4)))), (2, .int (iI ((max (lg) ((((M1.2 4 ((4 * q) + 1)) - M1.1 4) - fr)))))), (4, .int (iI (q))), (0, .ref (mo)), (1, .int (iI (b)))]) C.1 C.2.1 dX2_longestRoom_66 rfl hl (by decide) rfl (fun ls hl => ?_)
          refine lv_aload_n C.1 C.2.1 dX2_longestRoom_67 rfl (lv_at hl 3 rfl) ?_
          refine lv_iload_n C.1 C.2.1 dX2_longestRoom_68 rfl (lv_at hl 4 rfl) ?_
          refine lv_aload_n C.1 C.2.1 dX2_longestRoom_69 rfl (lv_at hl 3 rfl) ?_
          refine lv_iload C.1 C.2.1 dX2_longestRoom_70 (lv_at hl 2 rfl) ?_
          have hb_34 := hB 4 ((4 * q) + 2)
          refine tl_ci (t_V (n := 1) (ci := 8) C hml hS (m2_to l X σ_1 mo ad M1 hM1 hI1 (q) (by omega)) q1809 q1811 qs26 q53 q1812 (by decide +kernel) hm rfl rfl hl.1 rfl (Nat.le_of_ble_eq_true rfl) dX2_longestRoom_72 ⟨Nat.le_of_ble_eq_true rfl, Nat.le_of_ble_eq_true rfl⟩ ⟨Nat.le_refl _, Nat.le_refl _⟩) hS (fun r_35 σ_37 H locs hP_36 hS => ?_)
          obtain ⟨rfl, rfl⟩ := hP_36
          have hpf_38 := mPf_ok (M := M1) (by omega) (b) ((M1.2 4 ((4 * q) + 2)))
          refine tl_ci (t_V (n := 2) (ci := 8) C hml hS (m2_pieceFrom l X σ_1 mo ad M1 hM1 hI1 (b) ((M1.2 4 ((4 * q) + 2))) (by omega)) q1943 q1945 qs44 q53 q1946 (by decide +kernel) hm rfl rfl hl.1 rfl (Nat.le_of_ble_eq_true rfl) dX2_longestRoom_75 ⟨Nat.le_of_ble_eq_true rfl, Nat.le_of_ble_eq_true rfl⟩ ⟨Nat.le_refl _, Nat.le_refl _⟩) hS (fun r_39 σ_41 H locs hP_40 hS => ?_)
          obtain ⟨rfl, rfl⟩ := hP_40
          refine lv_istore (lv' := [(4, .int (iI ((mPieceFrom M1 b (M1.2 4 ((4 * q) + 2)))))), (3, .int (iI (((M1.2 4 ((4 * q) + 2)) + M1.1 4)))), (2, .int (iI ((max (lg) ((((M1.2 4 ((4 * q) + 1)) - M1.1 4) - fr)))))), (0, .ref (mo)), (1, .int (iI (b)))]) C.1 C.2.1 dX2_longestRoom_78 hl (by decide) rfl (fun ls hl => ?_)
          refine lv_goto (tgt := 31) C.1 C.2.1 dX2_longestRoom_80 (by decide) ?_
          exact ih_19 ((max (lg) ((((M1.2 4 ((4 * q) + 1)) - M1.1 4) - fr)))) (((M1.2 4 ((4 * q) + 2)) + M1.1 4)) ((mPieceFrom M1 b (M1.2 4 ((4 * q) + 2)))) (M1.2 4 (4 * q + 2)) ⟨by omega, by (rw [← hR]; show _ = (if _ then _ else _); rw [if_neg (by omega)])⟩ (by omega) _ _ _ hS (lv_sub hl [0, 1, 2, 3, 4] rfl)
    exact loop_17 (20001) (0) (0) ((mPieceFrom M1 b 0)) 0 ⟨by omega, rfl⟩ (by omega) _ _ _ hS (lv_sub hl [0, 1, 2, 3, 4] rfl)
  · skip
    refine lv_aload_n C.1 C.2.1 dX2_longestRoom_13 rfl (lv_at hl 0 rfl) ?_
    refine ti_const C.1 C.2.1 dX2_longestRoom_14 ?_
    refine tl_ci (t_V (n := 1) (ci := 8) C hml hS (m2_fail l X σ_1 mo ad M1 ⟨hm, h0, h1, h2, h3, h4, h5, hd⟩ (1)) q1785 q1787 qs21 q53 q1788 (by decide +kernel) hm rfl rfl hl.1 rfl (Nat.le_of_ble_eq_true rfl) dX2_longestRoom_15 ⟨Nat.le_of_ble_eq_true rfl, Nat.le_of_ble_eq_true rfl⟩ ⟨Nat.le_refl _, Nat.le_refl _⟩) hS (fun r_42 σ_44 H locs hP_43 hS => ?_)
    obtain ⟨rfl, hM_45, hfr9⟩ := hP_43
    have hfr := hfr.trans hfr9
    obtain ⟨hm_46, hm_47, hm_48, hm_49, hm_50, hm_51, hm_52, hd⟩ := id hM_45
    exact r_i C hr hlk hS (by rw [show mLongest M1 b = (0, (mset M1 0 (1))) from by (unfold mLongest; (repeat (first | rw [if_pos (by omega)] | rw [if_neg (by omega)])); try rfl)]; exact ⟨rfl, ⟨hm_46, hm_47, hm_48, hm_49, hm_50, hm_51, hm_52, hd⟩, hfr⟩) dX2_longestRoom_18

