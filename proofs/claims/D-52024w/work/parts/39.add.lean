/-! TREEMAP.addEntry (printed by gen_tree7.py) -/
set_option maxRecDepth 100000
theorem gf_J21_7_13 {p : Program} {l : Launch} {e : Env} {R : Room} {s : State} {m : MethodId} {args : Array Value} {below : List Frame} {meth : Method} {c : Code} {H : Heap} {locs : List Loc} {cells slots : Nat} {Q : State → Prop} {cc : ByteArray} {pc : Nat} {ls : Array Slot} {rest : List Value} {X : tl_X} {σ : tl_H} {a : Nat} {fs : List Value} {v : Value} (C : tl_C X p s m args c cc RJ21) (hS : tl_S X s σ H locs) (he : σ a = some (oO 13 fs)) (hv : fs[4]? = some v) (hdg : decode cc pc = .ok (.getfield 7, 3)) (kk : W p l e R s m args below meth c H locs cells slots Q (F0 m (pc + 3) ls (v :: rest))) : W p l e R s m args below meth c H locs cells slots Q (F0 m pc ls (.ref a :: rest)) :=
  h_get (ref := "java/util/TreeMap") C hS in_J21 rfl 4 (by decide) q420 (fun _ h => h) he hv hdg kk
set_option maxHeartbeats 4000000 in
theorem m_addEntryL (l : Launch) (X : tl_X) (σ : tl_H) (T : Nat) (n md : Int) (ks : Option Nat) (N : Int) (S : Int → Prop) (rt : Option Int) (lf rg pa : Int → Option Int) (lo hi co : Int → Int) (ad kr : Int → Nat) (hT : TM X σ T n md ks S rt lf rg pa co ad kr) (hB : BT N S rt lf rg pa lo hi) (a : Nat) (x q : Int) (hq : S q) (hz : σ a = some (cZ x)) (hx1 : lo q < x) (hx2 : x < q) (hlq : lf q = none) (hrb : ∀ k, rt = some k → co k = 1) : tl_Met l X yJ21_addEntry cJ21_addEntry 6 ((Option.none : Option FieldType)) 3 (1) (6) [.ref (T), .ref (a), .ref (X.2.2.2 1), .ref (ad q), .int (iI (1))] σ (tl_Qv X (fun σ' => ∃ (rt' : Option Int) (lf' rg' pa' : Int → Option Int) (lo' hi' co' : Int → Int) (ad' kr' : Int → Nat), TM X σ' T (n + 1) (md + 1) ks (fun z => z = x ∨ S z) rt' lf' rg' pa' co' ad' kr' ∧ BT N (fun z => z = x ∨ S z) rt' lf' rg' pa' lo' hi' ∧ TF X σ σ' ∧ ∀ k, rt' = some k → co' k = 1)) := by
  have fq : σ (ad q) = some (oO 16 [.ref (kr q), .ref (X.2.2.2 1), .null, va_rf ((rg q).map ad), va_rf ((pa q).map ad), .int (iI (co q))]) := by rw [(hT.2.1 q hq).1, hlq]; rfl
  have hqb := hB.1 q hq
  have hxS : ¬ S x := fun z => (hB.2.2.2.1 q hq).2 hlq x z hx1 hx2
  refine tl_start (by decide) (Nat.le_of_ble_eq_true rfl) (fun p e s m below meth c ls C hr hml hlk hnm hS hl => ?_)
  have hl : lv_has ls 6 [(0, .ref (T)), (1, .ref (a)), (2, .ref (X.2.2.2 1)), (3, .ref (ad q)), (4, .int (iI (1)))] := hl
  refine h_new (ci := 16) (fs := [.null, .null, .null, .null, .null, .int (iI (0))]) C hS in_J30 tyJ30 tyJ30_ok q734 q735 q88 rfl df_J30 (by show 0 + 1 ≤ 1; omega) (by show 0 + 6 ≤ 6; omega) dJ21_addEntry_0 (fun q_1 H hS hq_1 hBq_1 => ?_)
  obtain ⟨σ_2, eσ_2⟩ : ∃ z, z = va_up σ q_1 (some (oO 16 [.null, .null, .null, .null, .null, .int (iI (0))])) := ⟨_, rfl⟩
  rw [← eσ_2] at hS
  have he_3 := up_kq eσ_2 hq_1 hT.1
  have he_4 := up_kq eσ_2 hq_1 fq
  have he_5 : σ_2 q_1 = some (oO 16 [.null, .null, .null, .null, .null, .int (iI (0))]) := by rw [eσ_2]; exact up_s
  have hEq : ad q ≠ q_1 := fun z => by rw [z, hq_1] at fq; cases fq
  refine lv_dup C.1 C.2.1 dJ21_addEntry_3 rfl ?_
  refine lv_aload_n C.1 C.2.1 dJ21_addEntry_4 rfl (lv_at hl 1 rfl) ?_
  refine lv_aload_n C.1 C.2.1 dJ21_addEntry_5 rfl (lv_at hl 2 rfl) ?_
  refine lv_aload_n C.1 C.2.1 dJ21_addEntry_6 rfl (lv_at hl 3 rfl) ?_
  refine tl_cv (t_I (n := 3) C hml hS (m_En_init_r l X σ_2 q_1 a (X.2.2.2 1) (ad q) he_5) q736 q737 q88 q738 rfl (by decide +kernel) rfl hl.1 rfl (Nat.le_of_ble_eq_true rfl) dJ21_addEntry_7 ⟨Nat.le_of_ble_eq_true rfl, Nat.le_of_ble_eq_true rfl⟩ ⟨by show 0 + 1 + (0) ≤ 1; omega, by show 0 + 6 + (0) ≤ 6; omega⟩) hS (fun σ_8 H locs hP_7 hS => ?_)
  have he_9 := up_kp hP_7 (tl_ne he_3 he_5 (by decide)) he_3
  have he_10 := up_kp hP_7 hEq he_4
  have he_11 : σ_8 (q_1) = some (oO 16 [.ref (a), .ref (X.2.2.2 1), .null, .null, .ref (ad q), .int (iI (1))]) := by rw [hP_7]; exact up_s
  refine lv_astore (lv' := [(5, .ref (q_1)), (0, .ref (T)), (1, .ref (a)), (2, .ref (X.2.2.2 1)), (3, .ref (ad q)), (4, .int (iI (1)))]) C.1 C.2.1 dJ21_addEntry_10 hl (by decide) rfl (fun ls hl => ?_)
  refine lv_iload C.1 C.2.1 dJ21_addEntry_12 (lv_at hl 5 rfl) ?_
  refine ti_if_eq (tgt := 26) C.1 C.2.1 dJ21_addEntry_14 (by decide) ⟨by decide, by decide⟩ (fun hc_12 => ?_) (fun hc_12 => ?_)
  · skip
    exact absurd hc_12 (by decide)
  · skip
    refine lv_aload_n C.1 C.2.1 dJ21_addEntry_17 rfl (lv_at hl 4 rfl) ?_
    refine lv_aload C.1 C.2.1 dJ21_addEntry_18 (lv_at hl 0 rfl) ?_
    refine gp_J21_111_16 C hS he_10 rfl rfl (Nat.le_of_ble_eq_true rfl) dJ21_addEntry_20 (fun H locs hS => ?_)
    obtain ⟨σ_13, eσ_13⟩ : ∃ z, z = va_up σ_8 (ad q) (some (oO 16 [.ref (kr q), .ref (X.2.2.2 1), .ref (q_1), va_rf ((rg q).map ad), va_rf ((pa q).map ad), .int (iI (co q))])) := ⟨_, rfl⟩
    have hS : tl_S X s σ_13 H locs := by rw [eσ_13]; exact hS
    have he_14 := up_kp eσ_13 (tl_ne he_9 he_10 (by decide)) he_9
    have he_15 : σ_13 (ad q) = some (oO 16 [.ref (kr q), .ref (X.2.2.2 1), .ref (q_1), va_rf ((rg q).map ad), va_rf ((pa q).map ad), .int (iI (co q))]) := by rw [eσ_13]; exact up_s
    have he_16 := up_kp eσ_13 (Ne.symm hEq) he_11
    refine lv_goto (tgt := 32) C.1 C.2.1 dJ21_addEntry_23 (by decide) ?_
    refine lv_aload_n C.1 C.2.1 dJ21_addEntry_32 rfl (lv_at hl 1 rfl) ?_
    refine lv_aload C.1 C.2.1 dJ21_addEntry_33 (lv_at hl 0 rfl) ?_
    have hqx : q ≠ x := by omega
    have hBn := hB.insL hq hx1 hx2 hlq
    have hTn : TM X σ_13 T n md ks (fun z => z = x ∨ S z) rt (fup (fup lf x none) q (some x)) (fup rg x none) (fup pa x (some q)) (fup co x 1) (fup ad x q_1) (fup kr x a) := by
      refine TM.ins hT hB hq hxS hq_1 hz ?_ ?_ ?_ ?_ ?_
      · simp [fup, Ne.symm hqx]
      · simp [fup, Ne.symm hqx]
      · intro z h1 h2; simp [fup, h1, h2]
      · intro z h1 h2; simp [fup, h1, h2]
      · rw [show (fup (fup lf x none) q (some x)) q = some x from fup_s, show (fup rg x none) q = rg q from fup_n hqx, map_fup (x := x) (oo := rg q) (fun j hj => fun (z : j = x) => hxS (by rw [← z]; exact ((hB.2.2.2.2.1 q hq).1 j hj).1)), show (some x).map (fup ad x q_1) = some q_1 from congrArg some fup_s, eσ_13, hP_7, eσ_2, up_uu]; rfl
    have hFn : TF X σ σ_13 := ⟨hS.fix, fun b e hb hn => by rw [eσ_13, up_n (nct_ne hb hn fq (Or.inr rfl)), hP_7, eσ_2, up_uu]; exact up_old hq_1 hb⟩
    have hTc := m_fix l X σ_13 T n md ks N (fun z => z = x ∨ S z) rt (fup (fup lf x none) q (some x)) (fup rg x none) (fup pa x (some q)) (fup lo x (lo q)) (fup hi x q) (fup co x 1) (fup ad x q_1) (fup kr x a) hTn hBn x (Or.inl rfl) (fun z => hxS (hB.2.2.2.2.2.2.1 x z).1) (fun k h => by rw [fup_n (fun z => hxS (by rw [← z]; exact (hB.2.2.2.2.2.2.1 k h).1))]; exact hrb k h)
    rw [show fup ad x q_1 x = q_1 from fup_s] at hTc
    refine tl_cv (t_V (n := 1) (ci := 13) C hml hS (hTc) q771 q773 qs7 q74 q774 (by decide +kernel) he_14 rfl rfl hl.1 rfl (Nat.le_of_ble_eq_true rfl) dJ21_addEntry_35 ⟨Nat.le_of_ble_eq_true rfl, Nat.le_of_ble_eq_true rfl⟩ ⟨by show 0 + 1 + (0) ≤ 1; omega, by show 0 + 6 + (0) ≤ 6; omega⟩) hS (fun σ_19 H locs hP_18 hS => ?_)
    obtain ⟨rt', lf', rg', pa', lo', hi', co', hT', hB', hF', hbl⟩ := hP_18
    refine lv_aload_n C.1 C.2.1 dJ21_addEntry_38 rfl (lv_at hl 1 rfl) ?_
    refine lv_dup C.1 C.2.1 dJ21_addEntry_39 rfl ?_
    refine gf_J21_7_13 C hS hT'.1 rfl dJ21_addEntry_40 ?_
    refine ti_const C.1 C.2.1 dJ21_addEntry_43 ?_
    refine ti_iadd C.1 C.2.1 dJ21_addEntry_44 ?_
    refine gp_J21_7_13 C hS hT'.1 rfl rfl (Nat.le_of_ble_eq_true rfl) dJ21_addEntry_45 (fun H locs hS => ?_)
    obtain ⟨σ_20, eσ_20⟩ : ∃ z, z = va_up σ_19 (T) (some (oO 13 [.null, .null, .null, va_rf (rt'.map (fup ad x q_1)), .int (iI ((n + 1))), .int (iI (md)), .null, va_rf (ks), .null])) := ⟨_, rfl⟩
    have hS : tl_S X s σ_20 H locs := by rw [eσ_20]; exact hS
    have he_21 : σ_20 (T) = some (oO 13 [.null, .null, .null, va_rf (rt'.map (fup ad x q_1)), .int (iI ((n + 1))), .int (iI (md)), .null, va_rf (ks), .null]) := by rw [eσ_20]; exact up_s
    refine lv_aload_n C.1 C.2.1 dJ21_addEntry_48 rfl (lv_at hl 1 rfl) ?_
    refine lv_dup C.1 C.2.1 dJ21_addEntry_49 rfl ?_
    refine gf_J21_13_13 C hS he_21 rfl dJ21_addEntry_50 ?_
    refine ti_const C.1 C.2.1 dJ21_addEntry_53 ?_
    refine ti_iadd C.1 C.2.1 dJ21_addEntry_54 ?_
    refine gp_J21_13_13 C hS he_21 rfl rfl (Nat.le_of_ble_eq_true rfl) dJ21_addEntry_55 (fun H locs hS => ?_)
    obtain ⟨σ_22, eσ_22⟩ : ∃ z, z = va_up σ_20 (T) (some (oO 13 [.null, .null, .null, va_rf (rt'.map (fup ad x q_1)), .int (iI ((n + 1))), .int (iI ((md + 1))), .null, va_rf (ks), .null])) := ⟨_, rfl⟩
    have hS : tl_S X s σ_22 H locs := by rw [eσ_22]; exact hS
    have he_23 : σ_22 (T) = some (oO 13 [.null, .null, .null, va_rf (rt'.map (fup ad x q_1)), .int (iI ((n + 1))), .int (iI ((md + 1))), .null, va_rf (ks), .null]) := by rw [eσ_22]; exact up_s
    refine W.widen (k := 1) (n := 6) (by omega) (by omega) ?_
    exact r_v C hr hlk hS ⟨rt', lf', rg', pa', lo', hi', co', fup ad x q_1, fup kr x a, TM.size hT' (by rw [eσ_22, eσ_20, up_uu]), hB', TF.up (hFn.tr hF') hT'.1 (Or.inl rfl) (by rw [eσ_22, eσ_20, up_uu]) hS.fix, hbl⟩ dJ21_addEntry_58

set_option maxHeartbeats 4000000 in
theorem m_addEntryR (l : Launch) (X : tl_X) (σ : tl_H) (T : Nat) (n md : Int) (ks : Option Nat) (N : Int) (S : Int → Prop) (rt : Option Int) (lf rg pa : Int → Option Int) (lo hi co : Int → Int) (ad kr : Int → Nat) (hT : TM X σ T n md ks S rt lf rg pa co ad kr) (hB : BT N S rt lf rg pa lo hi) (a : Nat) (x q : Int) (hq : S q) (hz : σ a = some (cZ x)) (hx1 : q < x) (hx2 : x < hi q) (hlq : rg q = none) (hrb : ∀ k, rt = some k → co k = 1) : tl_Met l X yJ21_addEntry cJ21_addEntry 6 ((Option.none : Option FieldType)) 3 (1) (6) [.ref (T), .ref (a), .ref (X.2.2.2 1), .ref (ad q), .int (iI (0))] σ (tl_Qv X (fun σ' => ∃ (rt' : Option Int) (lf' rg' pa' : Int → Option Int) (lo' hi' co' : Int → Int) (ad' kr' : Int → Nat), TM X σ' T (n + 1) (md + 1) ks (fun z => z = x ∨ S z) rt' lf' rg' pa' co' ad' kr' ∧ BT N (fun z => z = x ∨ S z) rt' lf' rg' pa' lo' hi' ∧ TF X σ σ' ∧ ∀ k, rt' = some k → co' k = 1)) := by
  have fq : σ (ad q) = some (oO 16 [.ref (kr q), .ref (X.2.2.2 1), va_rf ((lf q).map ad), .null, va_rf ((pa q).map ad), .int (iI (co q))]) := by rw [(hT.2.1 q hq).1, hlq]; rfl
  have hqb := hB.1 q hq
  have hxS : ¬ S x := fun z => (hB.2.2.2.2.1 q hq).2 hlq x z hx1 hx2
  refine tl_start (by decide) (Nat.le_of_ble_eq_true rfl) (fun p e s m below meth c ls C hr hml hlk hnm hS hl => ?_)
  have hl : lv_has ls 6 [(0, .ref (T)), (1, .ref (a)), (2, .ref (X.2.2.2 1)), (3, .ref (ad q)), (4, .int (iI (0)))] := hl
  refine h_new (ci := 16) (fs := [.null, .null, .null, .null, .null, .int (iI (0))]) C hS in_J30 tyJ30 tyJ30_ok q734 q735 q88 rfl df_J30 (by show 0 + 1 ≤ 1; omega) (by show 0 + 6 ≤ 6; omega) dJ21_addEntry_0 (fun q_1 H hS hq_1 hBq_1 => ?_)
  obtain ⟨σ_2, eσ_2⟩ : ∃ z, z = va_up σ q_1 (some (oO 16 [.null, .null, .null, .null, .null, .int (iI (0))])) := ⟨_, rfl⟩
  rw [← eσ_2] at hS
  have he_3 := up_kq eσ_2 hq_1 hT.1
  have he_4 := up_kq eσ_2 hq_1 fq
  have he_5 : σ_2 q_1 = some (oO 16 [.null, .null, .null, .null, .null, .int (iI (0))]) := by rw [eσ_2]; exact up_s
  have hEq : ad q ≠ q_1 := fun z => by rw [z, hq_1] at fq; cases fq
  refine lv_dup C.1 C.2.1 dJ21_addEntry_3 rfl ?_
  refine lv_aload_n C.1 C.2.1 dJ21_addEntry_4 rfl (lv_at hl 1 rfl) ?_
  refine lv_aload_n C.1 C.2.1 dJ21_addEntry_5 rfl (lv_at hl 2 rfl) ?_
  refine lv_aload_n C.1 C.2.1 dJ21_addEntry_6 rfl (lv_at hl 3 rfl) ?_
  refine tl_cv (t_I (n := 3) C hml hS (m_En_init_r l X σ_2 q_1 a (X.2.2.2 1) (ad q) he_5) q736 q737 q88 q738 rfl (by decide +kernel) rfl hl.1 rfl (Nat.le_of_ble_eq_true rfl) dJ21_addEntry_7 ⟨Nat.le_of_ble_eq_true rfl, Nat.le_of_ble_eq_true rfl⟩ ⟨by show 0 + 1 + (0) ≤ 1; omega, by show 0 + 6 + (0) ≤ 6; omega⟩) hS (fun σ_8 H locs hP_7 hS => ?_)
  have he_9 := up_kp hP_7 (tl_ne he_3 he_5 (by decide)) he_3
  have he_10 := up_kp hP_7 hEq he_4
  have he_11 : σ_8 (q_1) = some (oO 16 [.ref (a), .ref (X.2.2.2 1), .null, .null, .ref (ad q), .int (iI (1))]) := by rw [hP_7]; exact up_s
  refine lv_astore (lv' := [(5, .ref (q_1)), (0, .ref (T)), (1, .ref (a)), (2, .ref (X.2.2.2 1)), (3, .ref (ad q)), (4, .int (iI (0)))]) C.1 C.2.1 dJ21_addEntry_10 hl (by decide) rfl (fun ls hl => ?_)
  refine lv_iload C.1 C.2.1 dJ21_addEntry_12 (lv_at hl 5 rfl) ?_
  refine ti_if_eq (tgt := 26) C.1 C.2.1 dJ21_addEntry_14 (by decide) ⟨by decide, by decide⟩ (fun hc_12 => ?_) (fun hc_12 => ?_)
  · skip
    refine lv_aload_n C.1 C.2.1 dJ21_addEntry_26 rfl (lv_at hl 4 rfl) ?_
    refine lv_aload C.1 C.2.1 dJ21_addEntry_27 (lv_at hl 0 rfl) ?_
    refine gp_J21_114_16 C hS he_10 rfl rfl (Nat.le_of_ble_eq_true rfl) dJ21_addEntry_29 (fun H locs hS => ?_)
    obtain ⟨σ_13, eσ_13⟩ : ∃ z, z = va_up σ_8 (ad q) (some (oO 16 [.ref (kr q), .ref (X.2.2.2 1), va_rf ((lf q).map ad), .ref (q_1), va_rf ((pa q).map ad), .int (iI (co q))])) := ⟨_, rfl⟩
    have hS : tl_S X s σ_13 H locs := by rw [eσ_13]; exact hS
    have he_14 := up_kp eσ_13 (tl_ne he_9 he_10 (by decide)) he_9
    have he_15 : σ_13 (ad q) = some (oO 16 [.ref (kr q), .ref (X.2.2.2 1), va_rf ((lf q).map ad), .ref (q_1), va_rf ((pa q).map ad), .int (iI (co q))]) := by rw [eσ_13]; exact up_s
    have he_16 := up_kp eσ_13 (Ne.symm hEq) he_11
    refine lv_aload_n C.1 C.2.1 dJ21_addEntry_32 rfl (lv_at hl 1 rfl) ?_
    refine lv_aload C.1 C.2.1 dJ21_addEntry_33 (lv_at hl 0 rfl) ?_
    have hqx : q ≠ x := by omega
    have hBn := hB.insR hq hx1 hx2 hlq
    have hTn : TM X σ_13 T n md ks (fun z => z = x ∨ S z) rt (fup lf x none) (fup (fup rg x none) q (some x)) (fup pa x (some q)) (fup co x 1) (fup ad x q_1) (fup kr x a) := by
      refine TM.ins hT hB hq hxS hq_1 hz ?_ ?_ ?_ ?_ ?_
      · simp [fup, Ne.symm hqx]
      · simp [fup, Ne.symm hqx]
      · intro z h1 h2; simp [fup, h1, h2]
      · intro z h1 h2; simp [fup, h1, h2]
      · rw [show (fup (fup rg x none) q (some x)) q = some x from fup_s, show (fup lf x none) q = lf q from fup_n hqx, map_fup (x := x) (oo := lf q) (fun j hj => fun (z : j = x) => hxS (by rw [← z]; exact ((hB.2.2.2.1 q hq).1 j hj).1)), show (some x).map (fup ad x q_1) = some q_1 from congrArg some fup_s, eσ_13, hP_7, eσ_2, up_uu]; rfl
    have hFn : TF X σ σ_13 := ⟨hS.fix, fun b e hb hn => by rw [eσ_13, up_n (nct_ne hb hn fq (Or.inr rfl)), hP_7, eσ_2, up_uu]; exact up_old hq_1 hb⟩
    have hTc := m_fix l X σ_13 T n md ks N (fun z => z = x ∨ S z) rt (fup lf x none) (fup (fup rg x none) q (some x)) (fup pa x (some q)) (fup lo x q) (fup hi x (hi q)) (fup co x 1) (fup ad x q_1) (fup kr x a) hTn hBn x (Or.inl rfl) (fun z => hxS (hB.2.2.2.2.2.2.1 x z).1) (fun k h => by rw [fup_n (fun z => hxS (by rw [← z]; exact (hB.2.2.2.2.2.2.1 k h).1))]; exact hrb k h)
    rw [show fup ad x q_1 x = q_1 from fup_s] at hTc
    refine tl_cv (t_V (n := 1) (ci := 13) C hml hS (hTc) q771 q773 qs7 q74 q774 (by decide +kernel) he_14 rfl rfl hl.1 rfl (Nat.le_of_ble_eq_true rfl) dJ21_addEntry_35 ⟨Nat.le_of_ble_eq_true rfl, Nat.le_of_ble_eq_true rfl⟩ ⟨by show 0 + 1 + (0) ≤ 1; omega, by show 0 + 6 + (0) ≤ 6; omega⟩) hS (fun σ_19 H locs hP_18 hS => ?_)
    obtain ⟨rt', lf', rg', pa', lo', hi', co', hT', hB', hF', hbl⟩ := hP_18
    refine lv_aload_n C.1 C.2.1 dJ21_addEntry_38 rfl (lv_at hl 1 rfl) ?_
    refine lv_dup C.1 C.2.1 dJ21_addEntry_39 rfl ?_
    refine gf_J21_7_13 C hS hT'.1 rfl dJ21_addEntry_40 ?_
    refine ti_const C.1 C.2.1 dJ21_addEntry_43 ?_
    refine ti_iadd C.1 C.2.1 dJ21_addEntry_44 ?_
    refine gp_J21_7_13 C hS hT'.1 rfl rfl (Nat.le_of_ble_eq_true rfl) dJ21_addEntry_45 (fun H locs hS => ?_)
    obtain ⟨σ_20, eσ_20⟩ : ∃ z, z = va_up σ_19 (T) (some (oO 13 [.null, .null, .null, va_rf (rt'.map (fup ad x q_1)), .int (iI ((n + 1))), .int (iI (md)), .null, va_rf (ks), .null])) := ⟨_, rfl⟩
    have hS : tl_S X s σ_20 H locs := by rw [eσ_20]; exact hS
    have he_21 : σ_20 (T) = some (oO 13 [.null, .null, .null, va_rf (rt'.map (fup ad x q_1)), .int (iI ((n + 1))), .int (iI (md)), .null, va_rf (ks), .null]) := by rw [eσ_20]; exact up_s
    refine lv_aload_n C.1 C.2.1 dJ21_addEntry_48 rfl (lv_at hl 1 rfl) ?_
    refine lv_dup C.1 C.2.1 dJ21_addEntry_49 rfl ?_
    refine gf_J21_13_13 C hS he_21 rfl dJ21_addEntry_50 ?_
    refine ti_const C.1 C.2.1 dJ21_addEntry_53 ?_
    refine ti_iadd C.1 C.2.1 dJ21_addEntry_54 ?_
    refine gp_J21_13_13 C hS he_21 rfl rfl (Nat.le_of_ble_eq_true rfl) dJ21_addEntry_55 (fun H locs hS => ?_)
    obtain ⟨σ_22, eσ_22⟩ : ∃ z, z = va_up σ_20 (T) (some (oO 13 [.null, .null, .null, va_rf (rt'.map (fup ad x q_1)), .int (iI ((n + 1))), .int (iI ((md + 1))), .null, va_rf (ks), .null])) := ⟨_, rfl⟩
    have hS : tl_S X s σ_22 H locs := by rw [eσ_22]; exact hS
    have he_23 : σ_22 (T) = some (oO 13 [.null, .null, .null, va_rf (rt'.map (fup ad x q_1)), .int (iI ((n + 1))), .int (iI ((md + 1))), .null, va_rf (ks), .null]) := by rw [eσ_22]; exact up_s
    refine W.widen (k := 1) (n := 6) (by omega) (by omega) ?_
    exact r_v C hr hlk hS ⟨rt', lf', rg', pa', lo', hi', co', fup ad x q_1, fup kr x a, TM.size hT' (by rw [eσ_22, eσ_20, up_uu]), hB', TF.up (hFn.tr hF') hT'.1 (Or.inl rfl) (by rw [eσ_22, eσ_20, up_uu]) hS.fix, hbl⟩ dJ21_addEntry_58
  · skip
    exact absurd hc_12 (by decide)

