/-! THE MODEL: BEST USE (printed by gen_model6.py) -/
set_option maxRecDepth 100000
set_option maxHeartbeats 4000000 in
theorem m2_bestUse (l : Launch) (X : tl_X) (σ : tl_H) (mo : Nat) (ad : Nat → Nat) (M : mS) (hM : MD X σ mo ad M) (hI : mI M) (b g ln : Int) (hr : -2147483648 ≤ b ∧ b ≤ 2147483647 ∧ -2147483648 ≤ g ∧ g ≤ 2147483647 ∧ -2147483648 ≤ ln ∧ ln ≤ 2147483647) (hw0 : ∀ q, 0 ≤ q → q < M.1 3 → 0 ≤ M.2 2 (4 * q + 0)) : tl_Met l X yX2_bestUse cX2_bestUse 10 ((Option.some FieldType.int)) 4 (1) (3011) [.ref (mo), .int (iI (b)), .int (iI (g)), .int (iI (ln))] σ (tl_Qi X (fun r σ' => r = iI (mBestUse (mset M 0 0) b g ln).1 ∧ MD X σ' mo ad (mBestUse (mset M 0 0) b g ln).2 ∧ mFr σ σ')) := by
  obtain ⟨M1, eM1⟩ : ∃ z, z = mset M 0 0 := ⟨_, rfl⟩
  have hw1 : ∀ q, 0 ≤ q → q < M1.1 3 → 0 ≤ M1.2 2 (4 * q + 0) := by rw [eM1]; exact hw0
  rw [← eM1]
  refine tl_start (by decide) (Nat.le_of_ble_eq_true rfl) (fun p e s m below meth c ls C hr hml hlk hnm hS hl => ?_)
  have hl : lv_has ls 10 [(0, .ref (mo)), (1, .int (iI (b))), (2, .int (iI (g))), (3, .int (iI (ln)))] := hl
  obtain ⟨hm, h0, h1, h2, h3, h4, h5, hd⟩ := id hM
  obtain ⟨hN, hB, hPt, hJ, hA, hWn⟩ := id hI
  have hfr : mFr σ σ := mFr.rf
  refine lv_aload_n C.1 C.2.1 dX2_bestUse_0 rfl (lv_at hl 0 rfl) ?_
  refine ti_const C.1 C.2.1 dX2_bestUse_1 ?_
  refine gp_X2_36_8 C hS hm rfl rfl (Nat.le_of_ble_eq_true rfl) dX2_bestUse_2 (fun H locs hS => ?_)
  obtain ⟨σ_1, eσ_1⟩ : ∃ z, z = va_up σ (mo) (some (oO 8 [.int (iI (0)), .int (iI (M.1 1)), .ref (ad 0), .int (iI (M.1 2)), .ref (ad 1), .int (iI (M.1 3)), .ref (ad 2), .ref (ad 3), .int (iI (M.1 4)), .int (iI (M.1 5)), .int (iI (M.1 6)), .ref (ad 4), .ref (ad 5), .int (iI (M.1 7)), .int (iI (M.1 8))])) := ⟨_, rfl⟩
  have hS : tl_S X s σ_1 H locs := by rw [eσ_1]; exact hS
  have he_2 : σ_1 (mo) = some (oO 8 [.int (iI (0)), .int (iI (M.1 1)), .ref (ad 0), .int (iI (M.1 2)), .ref (ad 1), .int (iI (M.1 3)), .ref (ad 2), .ref (ad 3), .int (iI (M.1 4)), .int (iI (M.1 5)), .int (iI (M.1 6)), .ref (ad 4), .ref (ad 5), .int (iI (M.1 7)), .int (iI (M.1 8))]) := by rw [eσ_1]; exact up_s
  have he_3 := up_kp eσ_1 (Ne.symm (tl_neA hm h0)) h0
  have he_4 := up_kp eσ_1 (Ne.symm (tl_neA hm h1)) h1
  have he_5 := up_kp eσ_1 (Ne.symm (tl_neA hm h2)) h2
  have he_6 := up_kp eσ_1 (Ne.symm (tl_neA hm h3)) h3
  have he_7 := up_kp eσ_1 (Ne.symm (tl_neA hm h4)) h4
  have he_8 := up_kp eσ_1 (Ne.symm (tl_neA hm h5)) h5
  have hfr := hfr.up hm mK_o eσ_1
  have hM1 : MD X σ_1 mo ad M1 := by rw [eM1]; exact ⟨he_2, he_3, he_4, he_5, he_6, he_7, he_8, hd⟩
  have hI1 : mI M1 := by rw [eM1]; exact hI.t0 0 (by decide)
  obtain ⟨hm, h0, h1, h2, h3, h4, h5, hd⟩ := id hM1
  obtain ⟨hN, hB, hPt, hJ, hA, hWn⟩ := id hI1
  have hfx := hS.fix
  refine lv_aload_n C.1 C.2.1 dX2_bestUse_5 rfl (lv_at hl 0 rfl) ?_
  refine lv_iload_n C.1 C.2.1 dX2_bestUse_6 rfl (lv_at hl 1 rfl) ?_
  refine tl_ci (t_V (n := 1) (ci := 8) C hml hS (m2_isBoard l X σ_1 mo ad M1 hM1 hI1 (b) (by omega)) q1793 q1795 qs22 q53 q1796 (by decide +kernel) hm rfl rfl hl.1 rfl (Nat.le_of_ble_eq_true rfl) dX2_bestUse_7 ⟨Nat.le_of_ble_eq_true rfl, Nat.le_of_ble_eq_true rfl⟩ ⟨by show 0 + (0) ≤ 1; omega, by show 0 + (0) ≤ 3011; omega⟩) hS (fun r_9 σ_11 H locs hP_10 hS => ?_)
  obtain ⟨rfl, rfl⟩ := hP_10
  refine ti_tb_ne (tgt := 19) C.1 C.2.1 dX2_bestUse_10 (by decide) (fun hc_12 => ?_) (fun hc_12 => ?_)
  · skip
    refine lv_iload_n C.1 C.2.1 dX2_bestUse_19 rfl (lv_at hl 2 rfl) ?_
    refine ti_const C.1 C.2.1 dX2_bestUse_20 ?_
    refine ti_const C.1 C.2.1 dX2_bestUse_21 ?_
    refine tl_ci (t_S (n := 3) C hml hS (m2_isIn l X σ_1 (g) (0) (3) (by omega)) q1782 q1783 q53 q1784 (by decide +kernel) rfl hl.1 rfl (Nat.le_of_ble_eq_true rfl) dX2_bestUse_22 ⟨Nat.le_of_ble_eq_true rfl, Nat.le_of_ble_eq_true rfl⟩ ⟨by show 0 + (0) ≤ 1; omega, by show 0 + (0) ≤ 3011; omega⟩) hS (fun r_13 σ_15 H locs hP_14 hS => ?_)
    obtain ⟨rfl, rfl⟩ := hP_14
    refine ti_tb_eq (tgt := 39) C.1 C.2.1 dX2_bestUse_25 (by decide) (fun hc_16 => ?_) (fun hc_16 => ?_)
    · skip
      refine lv_aload_n C.1 C.2.1 dX2_bestUse_39 rfl (lv_at hl 0 rfl) ?_
      refine ti_const C.1 C.2.1 dX2_bestUse_40 ?_
      refine tl_ci (t_V (n := 1) (ci := 8) C hml hS (m2_fail l X σ_1 mo ad M1 ⟨hm, h0, h1, h2, h3, h4, h5, hd⟩ (2)) q1785 q1787 qs21 q53 q1788 (by decide +kernel) hm rfl rfl hl.1 rfl (Nat.le_of_ble_eq_true rfl) dX2_bestUse_41 ⟨Nat.le_of_ble_eq_true rfl, Nat.le_of_ble_eq_true rfl⟩ ⟨by show 0 + (0) ≤ 1; omega, by show 0 + (0) ≤ 3011; omega⟩) hS (fun r_17 σ_19 H locs hP_18 hS => ?_)
      obtain ⟨rfl, hM_20, hfr9⟩ := hP_18
      have hfr := hfr.trans hfr9
      obtain ⟨hm_21, hm_22, hm_23, hm_24, hm_25, hm_26, hm_27, hd⟩ := id hM_20
      refine W.widen (k := 1) (n := 3011) (by omega) (by omega) ?_
      exact r_i C hr hlk hS (by rw [show mBestUse M1 b g ln = (0, (mset M1 0 (2))) from by (unfold mBestUse; (repeat (first | rw [if_pos (by omega)] | rw [if_neg (by omega)])))]; exact ⟨rfl, ⟨hm_21, hm_22, hm_23, hm_24, hm_25, hm_26, hm_27, hd⟩, hfr⟩) dX2_bestUse_44
    · skip
      refine lv_iload_n C.1 C.2.1 dX2_bestUse_28 rfl (lv_at hl 3 rfl) ?_
      refine ti_const C.1 C.2.1 dX2_bestUse_29 ?_
      refine ti_sipush C.1 C.2.1 dX2_bestUse_30 (by decide) ?_
      refine tl_ci (t_S (n := 3) C hml hS (m2_isIn l X σ_1 (ln) (0) (3000) (by omega)) q1782 q1783 q53 q1784 (by decide +kernel) rfl hl.1 rfl (Nat.le_of_ble_eq_true rfl) dX2_bestUse_33 ⟨Nat.le_of_ble_eq_true rfl, Nat.le_of_ble_eq_true rfl⟩ ⟨by show 0 + (0) ≤ 1; omega, by show 0 + (0) ≤ 3011; omega⟩) hS (fun r_28 σ_30 H locs hP_29 hS => ?_)
      obtain ⟨rfl, rfl⟩ := hP_29
      refine ti_tb_ne (tgt := 45) C.1 C.2.1 dX2_bestUse_36 (by decide) (fun hc_31 => ?_) (fun hc_31 => ?_)
      · skip
        refine lv_iload_n C.1 C.2.1 dX2_bestUse_45 rfl (lv_at hl 3 rfl) ?_
        refine lv_aload_n C.1 C.2.1 dX2_bestUse_46 rfl (lv_at hl 0 rfl) ?_
        refine gf_X2_23_8 C hS hm rfl dX2_bestUse_47 ?_
        refine ti_iadd C.1 C.2.1 dX2_bestUse_50 ?_
        refine lv_istore (lv' := [(4, .int (iI ((ln + M1.1 4)))), (0, .ref (mo)), (1, .int (iI (b))), (2, .int (iI (g))), (3, .int (iI (ln)))]) C.1 C.2.1 dX2_bestUse_51 hl (by decide) rfl (fun ls hl => ?_)
        refine lv_iload C.1 C.2.1 dX2_bestUse_53 (lv_at hl 0 rfl) ?_
        refine ti_const C.1 C.2.1 dX2_bestUse_55 ?_
        refine ti_iadd C.1 C.2.1 dX2_bestUse_56 ?_
        refine h_newiZ (n := (((ln + M1.1 4) + 1)).toNat) C hS (by omega) (by omega) (by show 0 + 1 ≤ 1; omega) (by show 0 + (((ln + M1.1 4) + 1)).toNat ≤ 3011; omega) dX2_bestUse_57 (fun q_32 H hS hq_32 hBq_32 => ?_)
        obtain ⟨σ_33, eσ_33⟩ : ∃ z, z = va_up σ_1 q_32 (some (oI (X.2.2.1 0) (((ln + M1.1 4) + 1)).toNat (zA (fun _ => 0)))) := ⟨_, rfl⟩
        rw [← eσ_33] at hS
        have he_34 := up_kq eσ_33 hq_32 hm
        have he_35 := up_kq eσ_33 hq_32 h0
        have he_36 := up_kq eσ_33 hq_32 h1
        have he_37 := up_kq eσ_33 hq_32 h2
        have he_38 := up_kq eσ_33 hq_32 h3
        have he_39 := up_kq eσ_33 hq_32 h4
        have he_40 := up_kq eσ_33 hq_32 h5
        have he_41 : σ_33 q_32 = some (oI (X.2.2.1 0) (((ln + M1.1 4) + 1)).toNat (zA (fun _ => 0))) := by rw [eσ_33]; exact up_s
        have hkc : ∀ a e, σ_1 a = some e → σ_33 a = some e := fun a e h => up_kq eσ_33 hq_32 h
        refine lv_astore (lv' := [(5, .ref (q_32)), (4, .int (iI ((ln + M1.1 4)))), (0, .ref (mo)), (1, .int (iI (b))), (2, .int (iI (g))), (3, .int (iI (ln)))]) C.1 C.2.1 dX2_bestUse_59 hl (by decide) rfl (fun ls hl => ?_)
        refine ti_const C.1 C.2.1 dX2_bestUse_61 ?_
        refine lv_istore (lv' := [(6, .int (iI (0))), (5, .ref (q_32)), (4, .int (iI ((ln + M1.1 4)))), (0, .ref (mo)), (1, .int (iI (b))), (2, .int (iI (g))), (3, .int (iI (ln)))]) C.1 C.2.1 dX2_bestUse_62 hl (by decide) rfl (fun ls hl => ?_)
        have loop_42 : ∀ (n_43 : Nat) (pt : Int) (sm : Int → Int), ((0 ≤ pt ∧ pt ≤ M1.1 3) ∧ ∀ z, -(9000000 * pt) ≤ sm z ∧ sm z ≤ 9000000 * pt) ∧ lp (mBuP M1 b g (ln + M1.1 4)) pt (M1.1 3) sm = lp (mBuP M1 b g (ln + M1.1 4)) 0 (M1.1 3) (fun _ => 0) → M1.1 3 - pt < (n_43 : Int) → ∀ (σc : tl_H) (hsc : σc q_32 = some (oI (X.2.2.1 0) (((ln + M1.1 4) + 1).toNat) (zA sm))) (hkc : ∀ a e, σ_1 a = some e → σc a = some e) (H : Heap) (locs : List Loc) (ls : Array Slot), tl_S X s σc H locs → lv_has ls 10 [(6, .int (iI (pt))), (5, .ref (q_32)), (4, .int (iI ((ln + M1.1 4)))), (0, .ref (mo)), (1, .int (iI (b))), (2, .int (iI (g))), (3, .int (iI (ln)))] → W p l e (tl_rm 4 (1) (3011)) s m ([.ref (mo), .int (iI (b)), .int (iI (g)), .int (iI (ln))] : List Value).toArray below meth c H locs (0 + 1) (0 + (((ln + M1.1 4) + 1)).toNat) (MQ below (tl_Qi X (fun r σ' => r = iI (mBestUse M1 b g ln).1 ∧ MD X σ' mo ad (mBestUse M1 b g ln).2 ∧ mFr σ σ')) ([.ref (mo), .int (iI (b)), .int (iI (g)), .int (iI (ln))] : List Value).toArray s (1) (3011) (tl_A X)) (F0 m 64 ls []) := by
          intro n_43
          induction n_43 with
          | zero => intro pt sm hinv hms; omega
          | succ n_43 ih_44 =>
            intro pt sm hinv hms_45 σc hsc hkc H locs ls hS hl
            obtain ⟨⟨hv, hbq⟩, hR⟩ := hinv
            have hk_46 := hkc _ _ hm
            have hk_47 := hkc _ _ h0
            have hk_48 := hkc _ _ h1
            have hk_49 := hkc _ _ h2
            have hk_50 := hkc _ _ h3
            have hk_51 := hkc _ _ h4
            have hk_52 := hkc _ _ h5
            have hMk_53 : MD X σc mo ad M1 := ⟨hk_46, hk_47, hk_48, hk_49, hk_50, hk_51, hk_52, hd⟩
            refine lv_iload C.1 C.2.1 dX2_bestUse_64 (lv_at hl 0 rfl) ?_
            refine lv_aload_n C.1 C.2.1 dX2_bestUse_66 rfl (lv_at hl 3 rfl) ?_
            refine gf_X2_46_8 C hS hk_46 rfl dX2_bestUse_67 ?_
            refine ti_icmp_ge (tgt := 189) C.1 C.2.1 dX2_bestUse_70 (by decide) ⟨by omega, by omega⟩ ⟨by omega, by omega⟩ (fun hc_54 => ?_) (fun hc_54 => ?_)
            · skip
              refine lv_aload C.1 C.2.1 dX2_bestUse_189 (lv_at hl 1 rfl) ?_
              refine lv_iload C.1 C.2.1 dX2_bestUse_191 (lv_at hl 2 rfl) ?_
              refine h_ialdZ C hS hsc (by omega) (by omega) (by omega) dX2_bestUse_193 ?_
              have hb_55 := hbq ((ln + M1.1 4))
              refine W.widen (k := 1) (n := 3011) (by omega) (by omega) ?_
              have hS := hS.sub hfx hkc
              exact r_i C hr hlk hS (by rw [show mBestUse M1 b g ln = (sm (ln + M1.1 4), M1) from by unfold mBestUse; rw [if_pos (by omega), if_pos (by omega), lp_ex hR (by omega)]]; exact ⟨rfl, hM1, hfr⟩) dX2_bestUse_194
            · skip
              refine lv_aload_n C.1 C.2.1 dX2_bestUse_73 rfl (lv_at hl 3 rfl) ?_
              refine lv_iload C.1 C.2.1 dX2_bestUse_74 (lv_at hl 0 rfl) ?_
              refine ti_const C.1 C.2.1 dX2_bestUse_76 ?_
              have hMk_56 : MD X σc mo ad M1 := ⟨hk_46, hk_47, hk_48, hk_49, hk_50, hk_51, hk_52, hd⟩
              have hb_57 := hWn ((4 * pt) + 1)
              refine tl_ci (t_V (n := 2) (ci := 8) C hml hS (m2_want l X σc mo ad M1 hMk_56 hI1 (pt) (1) (by omega)) q1817 q1819 qs28 q53 q1820 (by decide +kernel) hk_46 rfl rfl hl.1 rfl (Nat.le_of_ble_eq_true rfl) dX2_bestUse_77 ⟨Nat.le_of_ble_eq_true rfl, Nat.le_of_ble_eq_true rfl⟩ ⟨by show 0 + 1 + (0) ≤ 1; omega, by show 0 + (((ln + M1.1 4) + 1)).toNat + (0) ≤ 3011; omega⟩) hS (fun r_58 σ_60 H locs hP_59 hS => ?_)
              obtain ⟨rfl, rfl⟩ := hP_59
              refine lv_aload_n C.1 C.2.1 dX2_bestUse_80 rfl (lv_at hl 3 rfl) ?_
              refine lv_iload_n C.1 C.2.1 dX2_bestUse_81 rfl (lv_at hl 4 rfl) ?_
              have hMk_61 : MD X σc mo ad M1 := ⟨hk_46, hk_47, hk_48, hk_49, hk_50, hk_51, hk_52, hd⟩
              have hb_62 := hB 0 ((3 * b) + 1)
              refine tl_ci (t_V (n := 1) (ci := 8) C hml hS (m2_width l X σc mo ad M1 hMk_61 hI1 (b) (by omega)) q1875 q1877 qs35 q53 q1878 (by decide +kernel) hk_46 rfl rfl hl.1 rfl (Nat.le_of_ble_eq_true rfl) dX2_bestUse_82 ⟨Nat.le_of_ble_eq_true rfl, Nat.le_of_ble_eq_true rfl⟩ ⟨by show 0 + 1 + (0) ≤ 1; omega, by show 0 + (((ln + M1.1 4) + 1)).toNat + (0) ≤ 3011; omega⟩) hS (fun r_63 σ_65 H locs hP_64 hS => ?_)
              obtain ⟨rfl, rfl⟩ := hP_64
              refine ti_icmp_gt (tgt := 183) C.1 C.2.1 dX2_bestUse_85 (by decide) ⟨by omega, by omega⟩ ⟨by omega, by omega⟩ (fun hc_66 => ?_) (fun hc_66 => ?_)
              · skip
                refine ti_iinc (lv' := [(6, .int (iI ((pt + 1)))), (5, .ref (q_32)), (4, .int (iI ((ln + M1.1 4)))), (0, .ref (mo)), (1, .int (iI (b))), (2, .int (iI (g))), (3, .int (iI (ln)))]) C.1 C.2.1 dX2_bestUse_183 hl (k := 0) rfl (by decide) rfl (fun ls hl => ?_)
                refine lv_goto (tgt := 64) C.1 C.2.1 dX2_bestUse_186 (by decide) ?_
                exact ih_44 ((pt + 1)) sm ⟨⟨by omega, fun z => by have := hbq z; omega⟩, lp_bk hR (by omega) (by unfold mBuP; first | rw [if_pos (by omega)] | (rw [if_neg (by omega)]; exact (lp_ex hR2 (by omega)).symm))⟩ (by omega) σc hsc hkc _ _ _ hS (lv_sub hl [0, 1, 2, 3, 4, 5, 6] rfl)
              · skip
                refine lv_aload_n C.1 C.2.1 dX2_bestUse_88 rfl (lv_at hl 3 rfl) ?_
                refine lv_iload C.1 C.2.1 dX2_bestUse_89 (lv_at hl 0 rfl) ?_
                refine ti_const C.1 C.2.1 dX2_bestUse_91 ?_
                have hMk_67 : MD X σc mo ad M1 := ⟨hk_46, hk_47, hk_48, hk_49, hk_50, hk_51, hk_52, hd⟩
                have hb_68 := hWn ((4 * pt) + 2)
                refine tl_ci (t_V (n := 2) (ci := 8) C hml hS (m2_want l X σc mo ad M1 hMk_67 hI1 (pt) (2) (by omega)) q1817 q1819 qs28 q53 q1820 (by decide +kernel) hk_46 rfl rfl hl.1 rfl (Nat.le_of_ble_eq_true rfl) dX2_bestUse_92 ⟨Nat.le_of_ble_eq_true rfl, Nat.le_of_ble_eq_true rfl⟩ ⟨by show 0 + 1 + (0) ≤ 1; omega, by show 0 + (((ln + M1.1 4) + 1)).toNat + (0) ≤ 3011; omega⟩) hS (fun r_69 σ_71 H locs hP_70 hS => ?_)
                obtain ⟨rfl, rfl⟩ := hP_70
                refine lv_iload_n C.1 C.2.1 dX2_bestUse_95 rfl (lv_at hl 5 rfl) ?_
                refine ti_icmp_ge (tgt := 102) C.1 C.2.1 dX2_bestUse_96 (by decide) ⟨by omega, by omega⟩ ⟨by omega, by omega⟩ (fun hc_72 => ?_) (fun hc_72 => ?_)
                · skip
                  refine lv_aload_n C.1 C.2.1 dX2_bestUse_102 rfl (lv_at hl 3 rfl) ?_
                  refine lv_iload C.1 C.2.1 dX2_bestUse_103 (lv_at hl 0 rfl) ?_
                  refine ti_const C.1 C.2.1 dX2_bestUse_105 ?_
                  have hMk_73 : MD X σc mo ad M1 := ⟨hk_46, hk_47, hk_48, hk_49, hk_50, hk_51, hk_52, hd⟩
                  have hb_74 := hWn ((4 * pt) + 0)
                  refine tl_ci (t_V (n := 2) (ci := 8) C hml hS (m2_want l X σc mo ad M1 hMk_73 hI1 (pt) (0) (by omega)) q1817 q1819 qs28 q53 q1820 (by decide +kernel) hk_46 rfl rfl hl.1 rfl (Nat.le_of_ble_eq_true rfl) dX2_bestUse_106 ⟨Nat.le_of_ble_eq_true rfl, Nat.le_of_ble_eq_true rfl⟩ ⟨by show 0 + 1 + (0) ≤ 1; omega, by show 0 + (((ln + M1.1 4) + 1)).toNat + (0) ≤ 3011; omega⟩) hS (fun r_75 σ_77 H locs hP_76 hS => ?_)
                  obtain ⟨rfl, rfl⟩ := hP_76
                  refine lv_aload_n C.1 C.2.1 dX2_bestUse_109 rfl (lv_at hl 3 rfl) ?_
                  refine gf_X2_23_8 C hS hk_46 rfl dX2_bestUse_110 ?_
                  refine ti_iadd C.1 C.2.1 dX2_bestUse_113 ?_
                  refine lv_istore (lv' := [(7, .int (iI (((M1.2 2 ((4 * pt) + 0)) + M1.1 4)))), (6, .int (iI (pt))), (5, .ref (q_32)), (4, .int (iI ((ln + M1.1 4)))), (0, .ref (mo)), (1, .int (iI (b))), (2, .int (iI (g))), (3, .int (iI (ln)))]) C.1 C.2.1 dX2_bestUse_114 hl (by decide) rfl (fun ls hl => ?_)
                  refine ti_const C.1 C.2.1 dX2_bestUse_116 ?_
                  refine lv_istore (lv' := [(8, .int (iI (0))), (7, .int (iI (((M1.2 2 ((4 * pt) + 0)) + M1.1 4)))), (6, .int (iI (pt))), (5, .ref (q_32)), (4, .int (iI ((ln + M1.1 4)))), (0, .ref (mo)), (1, .int (iI (b))), (2, .int (iI (g))), (3, .int (iI (ln)))]) C.1 C.2.1 dX2_bestUse_117 hl (by decide) rfl (fun ls hl => ?_)
                  have loop_78 : ∀ (n_79 : Nat) (k : Int) (sn : Int → Int), ((0 ≤ k ∧ k ≤ 3000 ∧ (k ≤ M1.2 2 (4 * pt + 3) ∨ k = 0)) ∧ ∀ z, -(9000000 * pt + 3000 * k) ≤ sn z ∧ sn z ≤ 9000000 * pt + 3000 * k) ∧ lp (fun _ s => buR (M1.2 2 (4 * pt + 0)) (M1.2 2 (4 * pt + 0) + M1.1 4) 20001 (ln + M1.1 4) s) k (M1.2 2 (4 * pt + 3)) sn = lp (fun _ s => buR (M1.2 2 (4 * pt + 0)) (M1.2 2 (4 * pt + 0) + M1.1 4) 20001 (ln + M1.1 4) s) 0 (M1.2 2 (4 * pt + 3)) sm → 3000 - k < (n_79 : Int) → ∀ (σc : tl_H) (hsc : σc q_32 = some (oI (X.2.2.1 0) (((ln + M1.1 4) + 1).toNat) (zA sn))) (hkc : ∀ a e, σ_1 a = some e → σc a = some e) (H : Heap) (locs : List Loc) (ls : Array Slot), tl_S X s σc H locs → lv_has ls 10 [(8, .int (iI (k))), (7, .int (iI (((M1.2 2 ((4 * pt) + 0)) + M1.1 4)))), (6, .int (iI (pt))), (5, .ref (q_32)), (4, .int (iI ((ln + M1.1 4)))), (0, .ref (mo)), (1, .int (iI (b))), (2, .int (iI (g))), (3, .int (iI (ln)))] → W p l e (tl_rm 4 (1) (3011)) s m ([.ref (mo), .int (iI (b)), .int (iI (g)), .int (iI (ln))] : List Value).toArray below meth c H locs (0 + 1) (0 + (((ln + M1.1 4) + 1)).toNat) (MQ below (tl_Qi X (fun r σ' => r = iI (mBestUse M1 b g ln).1 ∧ MD X σ' mo ad (mBestUse M1 b g ln).2 ∧ mFr σ σ')) ([.ref (mo), .int (iI (b)), .int (iI (g)), .int (iI (ln))] : List Value).toArray s (1) (3011) (tl_A X)) (F0 m 119 ls []) := by
                    intro n_79
                    induction n_79 with
                    | zero => intro k sn hinv hms; omega
                    | succ n_79 ih_80 =>
                      intro k sn hinv hms_81 σc hsc hkc H locs ls hS hl
                      obtain ⟨⟨hv2, hbq⟩, hR2⟩ := hinv
                      have hb3 := hWn (4 * pt + 3)
                      have hk_82 := hkc _ _ hm
                      have hk_83 := hkc _ _ h0
                      have hk_84 := hkc _ _ h1
                      have hk_85 := hkc _ _ h2
                      have hk_86 := hkc _ _ h3
                      have hk_87 := hkc _ _ h4
                      have hk_88 := hkc _ _ h5
                      have hMk_89 : MD X σc mo ad M1 := ⟨hk_82, hk_83, hk_84, hk_85, hk_86, hk_87, hk_88, hd⟩
                      refine lv_iload C.1 C.2.1 dX2_bestUse_119 (lv_at hl 0 rfl) ?_
                      refine lv_aload_n C.1 C.2.1 dX2_bestUse_121 rfl (lv_at hl 5 rfl) ?_
                      refine lv_iload C.1 C.2.1 dX2_bestUse_122 (lv_at hl 2 rfl) ?_
                      refine ti_const C.1 C.2.1 dX2_bestUse_124 ?_
                      have hMk_90 : MD X σc mo ad M1 := ⟨hk_82, hk_83, hk_84, hk_85, hk_86, hk_87, hk_88, hd⟩
                      have hb_91 := hWn ((4 * pt) + 3)
                      refine tl_ci (t_V (n := 2) (ci := 8) C hml hS (m2_want l X σc mo ad M1 hMk_90 hI1 (pt) (3) (by omega)) q1817 q1819 qs28 q53 q1820 (by decide +kernel) hk_82 rfl rfl hl.1 rfl (Nat.le_of_ble_eq_true rfl) dX2_bestUse_125 ⟨Nat.le_of_ble_eq_true rfl, Nat.le_of_ble_eq_true rfl⟩ ⟨by show 0 + 1 + (0) ≤ 1; omega, by show 0 + (((ln + M1.1 4) + 1)).toNat + (0) ≤ 3011; omega⟩) hS (fun r_92 σ_94 H locs hP_93 hS => ?_)
                      obtain ⟨rfl, rfl⟩ := hP_93
                      refine ti_icmp_ge (tgt := 183) C.1 C.2.1 dX2_bestUse_128 (by decide) ⟨by omega, by omega⟩ ⟨by omega, by omega⟩ (fun hc_95 => ?_) (fun hc_95 => ?_)
                      · skip
                        refine ti_iinc (lv' := [(6, .int (iI ((pt + 1)))), (8, .int (iI (k))), (7, .int (iI (((M1.2 2 ((4 * pt) + 0)) + M1.1 4)))), (5, .ref (q_32)), (4, .int (iI ((ln + M1.1 4)))), (0, .ref (mo)), (1, .int (iI (b))), (2, .int (iI (g))), (3, .int (iI (ln)))]) C.1 C.2.1 dX2_bestUse_183 hl (k := 2) rfl (by decide) rfl (fun ls hl => ?_)
                        refine lv_goto (tgt := 64) C.1 C.2.1 dX2_bestUse_186 (by decide) ?_
                        exact ih_44 ((pt + 1)) sn ⟨⟨by omega, fun z => by have := hbq z; omega⟩, lp_bk hR (by omega) (by unfold mBuP; first | rw [if_pos (by omega)] | (rw [if_neg (by omega)]; exact (lp_ex hR2 (by omega)).symm))⟩ (by omega) σc hsc hkc _ _ _ hS (lv_sub hl [0, 3, 4, 5, 6, 7, 8] rfl)
                      · skip
                        refine lv_iload C.1 C.2.1 dX2_bestUse_131 (lv_at hl 4 rfl) ?_
                        refine lv_istore (lv' := [(9, .int (iI ((ln + M1.1 4)))), (8, .int (iI (k))), (7, .int (iI (((M1.2 2 ((4 * pt) + 0)) + M1.1 4)))), (6, .int (iI (pt))), (5, .ref (q_32)), (4, .int (iI ((ln + M1.1 4)))), (0, .ref (mo)), (1, .int (iI (b))), (2, .int (iI (g))), (3, .int (iI (ln)))]) C.1 C.2.1 dX2_bestUse_133 hl (by decide) rfl (fun ls hl => ?_)
                        have loop_96 : ∀ (n_97 : Nat) (r : Int) (so : Int → Int), ((-1 ≤ r ∧ r ≤ ln + M1.1 4) ∧ ∀ z, -(9000000 * pt + 3000 * k + 3000) ≤ so z ∧ so z ≤ 9000000 * pt + 3000 * k + 3000 ∧ (z ≤ r → -(9000000 * pt + 3000 * k) ≤ so z ∧ so z ≤ 9000000 * pt + 3000 * k)) ∧ buR (M1.2 2 (4 * pt + 0)) (M1.2 2 (4 * pt + 0) + M1.1 4) n_97 r so = buR (M1.2 2 (4 * pt + 0)) (M1.2 2 (4 * pt + 0) + M1.1 4) 20001 (ln + M1.1 4) sn → r + 1 < (n_97 : Int) → ∀ (σc : tl_H) (hsc : σc q_32 = some (oI (X.2.2.1 0) (((ln + M1.1 4) + 1).toNat) (zA so))) (hkc : ∀ a e, σ_1 a = some e → σc a = some e) (H : Heap) (locs : List Loc) (ls : Array Slot), tl_S X s σc H locs → lv_has ls 10 [(9, .int (iI (r))), (8, .int (iI (k))), (7, .int (iI (((M1.2 2 ((4 * pt) + 0)) + M1.1 4)))), (6, .int (iI (pt))), (5, .ref (q_32)), (4, .int (iI ((ln + M1.1 4)))), (0, .ref (mo)), (1, .int (iI (b))), (2, .int (iI (g))), (3, .int (iI (ln)))] → W p l e (tl_rm 4 (1) (3011)) s m ([.ref (mo), .int (iI (b)), .int (iI (g)), .int (iI (ln))] : List Value).toArray below meth c H locs (0 + 1) (0 + (((ln + M1.1 4) + 1)).toNat) (MQ below (tl_Qi X (fun r σ' => r = iI (mBestUse M1 b g ln).1 ∧ MD X σ' mo ad (mBestUse M1 b g ln).2 ∧ mFr σ σ')) ([.ref (mo), .int (iI (b)), .int (iI (g)), .int (iI (ln))] : List Value).toArray s (1) (3011) (tl_A X)) (F0 m 135 ls []) := by
                          intro n_97
                          induction n_97 with
                          | zero => intro r so hinv hms; omega
                          | succ n_97 ih_98 =>
                            intro r so hinv hms_99 σc hsc hkc H locs ls hS hl
                            obtain ⟨⟨hv3, hbq⟩, hR4⟩ := hinv
                            have hb4 := hWn (4 * pt + 0)
                            have hb5 := hw1 pt (by omega) (by omega)
                            have hk_100 := hkc _ _ hm
                            have hk_101 := hkc _ _ h0
                            have hk_102 := hkc _ _ h1
                            have hk_103 := hkc _ _ h2
                            have hk_104 := hkc _ _ h3
                            have hk_105 := hkc _ _ h4
                            have hk_106 := hkc _ _ h5
                            have hMk_107 : MD X σc mo ad M1 := ⟨hk_100, hk_101, hk_102, hk_103, hk_104, hk_105, hk_106, hd⟩
                            refine lv_iload C.1 C.2.1 dX2_bestUse_135 (lv_at hl 0 rfl) ?_
                            refine lv_iload C.1 C.2.1 dX2_bestUse_137 (lv_at hl 2 rfl) ?_
                            refine ti_icmp_lt (tgt := 177) C.1 C.2.1 dX2_bestUse_139 (by decide) ⟨by omega, by omega⟩ ⟨by omega, by omega⟩ (fun hc_108 => ?_) (fun hc_108 => ?_)
                            · skip
                              have hR3 : buR (M1.2 2 (4 * pt + 0)) (M1.2 2 (4 * pt + 0) + M1.1 4) 20001 (ln + M1.1 4) sn = so := by rw [← hR4]; show (if _ then _ else _) = _; rw [if_pos (by omega)]
                              refine ti_iinc (lv' := [(8, .int (iI ((k + 1)))), (9, .int (iI (r))), (7, .int (iI (((M1.2 2 ((4 * pt) + 0)) + M1.1 4)))), (6, .int (iI (pt))), (5, .ref (q_32)), (4, .int (iI ((ln + M1.1 4)))), (0, .ref (mo)), (1, .int (iI (b))), (2, .int (iI (g))), (3, .int (iI (ln)))]) C.1 C.2.1 dX2_bestUse_177 hl (k := 1) rfl (by decide) rfl (fun ls hl => ?_)
                              refine lv_goto (tgt := 119) C.1 C.2.1 dX2_bestUse_180 (by decide) ?_
                              exact ih_80 ((k + 1)) so ⟨⟨by omega, fun z => by have := hbq z; omega⟩, lp_bk hR2 (by omega) hR3⟩ (by omega) σc hsc hkc _ _ _ hS (lv_sub hl [0, 2, 3, 4, 5, 6, 7, 8, 9] rfl)
                            · skip
                              refine lv_aload C.1 C.2.1 dX2_bestUse_142 (lv_at hl 4 rfl) ?_
                              refine lv_iload C.1 C.2.1 dX2_bestUse_144 (lv_at hl 0 rfl) ?_
                              refine lv_aload C.1 C.2.1 dX2_bestUse_146 (lv_at hl 4 rfl) ?_
                              refine lv_iload C.1 C.2.1 dX2_bestUse_148 (lv_at hl 0 rfl) ?_
                              refine h_ialdZ C hS hsc (by omega) (by omega) (by omega) dX2_bestUse_150 ?_
                              have hb_109 := hbq (r)
                              refine lv_aload C.1 C.2.1 dX2_bestUse_151 (lv_at hl 4 rfl) ?_
                              refine lv_iload C.1 C.2.1 dX2_bestUse_153 (lv_at hl 0 rfl) ?_
                              refine lv_iload C.1 C.2.1 dX2_bestUse_155 (lv_at hl 2 rfl) ?_
                              refine ti_isub C.1 C.2.1 dX2_bestUse_157 ?_
                              refine h_ialdZ C hS hsc (by omega) (by omega) (by omega) dX2_bestUse_158 ?_
                              have hb_110 := hbq ((r - ((M1.2 2 ((4 * pt) + 0)) + M1.1 4)))
                              refine lv_aload_n C.1 C.2.1 dX2_bestUse_159 rfl (lv_at hl 6 rfl) ?_
                              refine lv_iload C.1 C.2.1 dX2_bestUse_160 (lv_at hl 3 rfl) ?_
                              refine ti_const C.1 C.2.1 dX2_bestUse_162 ?_
                              have hMk_111 : MD X σc mo ad M1 := ⟨hk_100, hk_101, hk_102, hk_103, hk_104, hk_105, hk_106, hd⟩
                              have hb_112 := hWn ((4 * pt) + 0)
                              refine tl_ci (t_V (n := 2) (ci := 8) C hml hS (m2_want l X σc mo ad M1 hMk_111 hI1 (pt) (0) (by omega)) q1817 q1819 qs28 q53 q1820 (by decide +kernel) hk_100 rfl rfl hl.1 rfl (Nat.le_of_ble_eq_true rfl) dX2_bestUse_163 ⟨Nat.le_of_ble_eq_true rfl, Nat.le_of_ble_eq_true rfl⟩ ⟨by show 0 + 1 + (0) ≤ 1; omega, by show 0 + (((ln + M1.1 4) + 1)).toNat + (0) ≤ 3011; omega⟩) hS (fun r_113 σ_115 H locs hP_114 hS => ?_)
                              obtain ⟨rfl, rfl⟩ := hP_114
                              refine ti_iadd C.1 C.2.1 dX2_bestUse_166 ?_
                              refine ti_max C hml hl.1 q1841 ⟨by omega, by omega⟩ ⟨by omega, by omega⟩ dX2_bestUse_167 (by show 1 ≤ 4; decide) (by show 40 ≤ 40 * 4; decide) (Nat.le_of_ble_eq_true rfl) (by show 0 + 1 ≤ 1; omega) (by show 0 + (((ln + M1.1 4) + 1)).toNat ≤ 3011; omega) ?_
                              refine h_iastZ C hS hsc (by omega) (by omega) (by omega) dX2_bestUse_170 (fun H locs hS => ?_)
                              obtain ⟨σ_116, eσ_116⟩ : ∃ z, z = va_up σc (q_32) (some (oI (X.2.2.1 0) (((ln + M1.1 4) + 1).toNat) (zA (zup so (r) ((max ((so (r))) (((so ((r - ((M1.2 2 ((4 * pt) + 0)) + M1.1 4)))) + (M1.2 2 ((4 * pt) + 0)))))))))) := ⟨_, rfl⟩
                              rw [← eσ_116] at hS
                              have he_117 := up_kp eσ_116 (tl_neA hk_100 hsc) hk_100
                              have he_118 := up_kp eσ_116 (tl_nq hq_32 h0) hk_101
                              have he_119 := up_kp eσ_116 (tl_nq hq_32 h1) hk_102
                              have he_120 := up_kp eσ_116 (tl_nq hq_32 h2) hk_103
                              have he_121 := up_kp eσ_116 (tl_nq hq_32 h3) hk_104
                              have he_122 := up_kp eσ_116 (tl_nq hq_32 h4) hk_105
                              have he_123 := up_kp eσ_116 (tl_nq hq_32 h5) hk_106
                              have he_124 : σ_116 (q_32) = some (oI (X.2.2.1 0) (((ln + M1.1 4) + 1).toNat) (zA (zup so (r) ((max ((so (r))) (((so ((r - ((M1.2 2 ((4 * pt) + 0)) + M1.1 4)))) + (M1.2 2 ((4 * pt) + 0))))))))) := by rw [eσ_116]; exact up_s
                              have hkc : ∀ a e, σ_1 a = some e → σ_116 a = some e := fun a e h => up_kp eσ_116 (tl_nq hq_32 h) (hkc a e h)
                              refine ti_iinc (lv' := [(9, .int (iI ((r + (-1))))), (8, .int (iI (k))), (7, .int (iI (((M1.2 2 ((4 * pt) + 0)) + M1.1 4)))), (6, .int (iI (pt))), (5, .ref (q_32)), (4, .int (iI ((ln + M1.1 4)))), (0, .ref (mo)), (1, .int (iI (b))), (2, .int (iI (g))), (3, .int (iI (ln)))]) C.1 C.2.1 dX2_bestUse_171 hl (k := 0) rfl (by decide) rfl (fun ls hl => ?_)
                              refine lv_goto (tgt := 135) C.1 C.2.1 dX2_bestUse_174 (by decide) ?_
                              exact ih_98 ((r + (-1))) (zup so (r) ((max ((so (r))) (((so ((r - ((M1.2 2 ((4 * pt) + 0)) + M1.1 4)))) + (M1.2 2 ((4 * pt) + 0))))))) ⟨⟨by omega, fun z => by (have h1 := hbq z; have h2 := hbq r; have h3 := hbq (r - (M1.2 2 (4 * pt + 0) + M1.1 4)); unfold zup; split <;> omega)⟩, by rw [← hR4]; show _ = (if _ then _ else _); rw [if_neg (by omega)]; rfl⟩ (by omega) σ_116 he_124 hkc _ _ _ hS (lv_sub hl [0, 1, 2, 3, 4, 5, 6, 7, 8, 9] rfl)
                        exact loop_96 (20001) ((ln + M1.1 4)) sn ⟨⟨by omega, fun z => by have := hbq z; omega⟩, rfl⟩ (by omega) σc hsc hkc _ _ _ hS (lv_sub hl [0, 1, 2, 3, 4, 5, 6, 7, 8, 9] rfl)
                  exact loop_78 (((3000 - (0) : Int)).toNat + 1) (0) sm ⟨⟨by omega, fun z => by have := hbq z; omega⟩, rfl⟩ (by omega) σc hsc hkc _ _ _ hS (lv_sub hl [0, 1, 2, 3, 4, 5, 6, 7, 8] rfl)
                · skip
                  refine lv_goto (tgt := 183) C.1 C.2.1 dX2_bestUse_99 (by decide) ?_
                  refine ti_iinc (lv' := [(6, .int (iI ((pt + 1)))), (5, .ref (q_32)), (4, .int (iI ((ln + M1.1 4)))), (0, .ref (mo)), (1, .int (iI (b))), (2, .int (iI (g))), (3, .int (iI (ln)))]) C.1 C.2.1 dX2_bestUse_183 hl (k := 0) rfl (by decide) rfl (fun ls hl => ?_)
                  refine lv_goto (tgt := 64) C.1 C.2.1 dX2_bestUse_186 (by decide) ?_
                  exact ih_44 ((pt + 1)) sm ⟨⟨by omega, fun z => by have := hbq z; omega⟩, lp_bk hR (by omega) (by unfold mBuP; first | rw [if_pos (by omega)] | (rw [if_neg (by omega)]; exact (lp_ex hR2 (by omega)).symm))⟩ (by omega) σc hsc hkc _ _ _ hS (lv_sub hl [0, 1, 2, 3, 4, 5, 6] rfl)
        exact loop_42 (((M1.1 3 - (0) : Int)).toNat + 1) (0) (fun _ => 0) ⟨⟨by omega, fun z => ⟨by decide, by decide⟩⟩, rfl⟩ (by omega) σ_33 he_41 hkc _ _ _ hS (lv_sub hl [0, 1, 2, 3, 4, 5, 6] rfl)
      · skip
        refine lv_aload_n C.1 C.2.1 dX2_bestUse_39 rfl (lv_at hl 0 rfl) ?_
        refine ti_const C.1 C.2.1 dX2_bestUse_40 ?_
        refine tl_ci (t_V (n := 1) (ci := 8) C hml hS (m2_fail l X σ_1 mo ad M1 ⟨hm, h0, h1, h2, h3, h4, h5, hd⟩ (2)) q1785 q1787 qs21 q53 q1788 (by decide +kernel) hm rfl rfl hl.1 rfl (Nat.le_of_ble_eq_true rfl) dX2_bestUse_41 ⟨Nat.le_of_ble_eq_true rfl, Nat.le_of_ble_eq_true rfl⟩ ⟨by show 0 + (0) ≤ 1; omega, by show 0 + (0) ≤ 3011; omega⟩) hS (fun r_125 σ_127 H locs hP_126 hS => ?_)
        obtain ⟨rfl, hM_128, hfr9⟩ := hP_126
        have hfr := hfr.trans hfr9
        obtain ⟨hm_129, hm_130, hm_131, hm_132, hm_133, hm_134, hm_135, hd⟩ := id hM_128
        refine W.widen (k := 1) (n := 3011) (by omega) (by omega) ?_
        exact r_i C hr hlk hS (by rw [show mBestUse M1 b g ln = (0, (mset M1 0 (2))) from by (unfold mBestUse; (repeat (first | rw [if_pos (by omega)] | rw [if_neg (by omega)])))]; exact ⟨rfl, ⟨hm_129, hm_130, hm_131, hm_132, hm_133, hm_134, hm_135, hd⟩, hfr⟩) dX2_bestUse_44
  · skip
    refine lv_aload_n C.1 C.2.1 dX2_bestUse_13 rfl (lv_at hl 0 rfl) ?_
    refine ti_const C.1 C.2.1 dX2_bestUse_14 ?_
    refine tl_ci (t_V (n := 1) (ci := 8) C hml hS (m2_fail l X σ_1 mo ad M1 ⟨hm, h0, h1, h2, h3, h4, h5, hd⟩ (1)) q1785 q1787 qs21 q53 q1788 (by decide +kernel) hm rfl rfl hl.1 rfl (Nat.le_of_ble_eq_true rfl) dX2_bestUse_15 ⟨Nat.le_of_ble_eq_true rfl, Nat.le_of_ble_eq_true rfl⟩ ⟨by show 0 + (0) ≤ 1; omega, by show 0 + (0) ≤ 3011; omega⟩) hS (fun r_136 σ_138 H locs hP_137 hS => ?_)
    obtain ⟨rfl, hM_139, hfr9⟩ := hP_137
    have hfr := hfr.trans hfr9
    obtain ⟨hm_140, hm_141, hm_142, hm_143, hm_144, hm_145, hm_146, hd⟩ := id hM_139
    refine W.widen (k := 1) (n := 3011) (by omega) (by omega) ?_
    exact r_i C hr hlk hS (by rw [show mBestUse M1 b g ln = (0, (mset M1 0 (1))) from by (unfold mBestUse; (repeat (first | rw [if_pos (by omega)] | rw [if_neg (by omega)])))]; exact ⟨rfl, ⟨hm_140, hm_141, hm_142, hm_143, hm_144, hm_145, hm_146, hd⟩, hfr⟩) dX2_bestUse_18

