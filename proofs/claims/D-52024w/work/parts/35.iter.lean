/-! TREESET's iterator (printed by gen_tree4.py) -/
set_option maxRecDepth 100000
theorem TM.sub {X : tl_X} {σ σ' : tl_H} {T : Nat} {n md : Int} {ks ks' : Option Nat} {S : Int → Prop} {rt : Option Int} {lf rg pa : Int → Option Int} {co : Int → Int} {ad kr : Int → Nat} (h : TM X σ T n md ks S rt lf rg pa co ad kr) (hT : σ' T = some (cT (rt.map ad) n md ks')) (hs : ∀ b e, σ b = some e → b ≠ T → σ' b = some e) : TM X σ' T n md ks' S rt lf rg pa co ad kr :=
  ⟨hT, fun k hk => ⟨hs _ _ (h.2.1 k hk).1 (tl_ne (h.2.1 k hk).1 h.1 (by decide)), hs _ _ (h.2.1 k hk).2.1 (tl_ne (h.2.1 k hk).2.1 h.1 (by decide)), (h.2.1 k hk).2.2⟩, h.2.2⟩
theorem TM.new {X : tl_X} {σ σ' : tl_H} {T q : Nat} {n md : Int} {ks : Option Nat} {S : Int → Prop} {rt : Option Int} {lf rg pa : Int → Option Int} {co : Int → Int} {ad kr : Int → Nat} {e : va_E} (h : TM X σ T n md ks S rt lf rg pa co ad kr) (eq : σ' = va_up σ q (some e)) (hq : σ q = none) : TM X σ' T n md ks S rt lf rg pa co ad kr :=
  h.sub (by rw [eq]; exact up_old hq h.1) (fun b f hb _ => by rw [eq]; exact up_old hq hb)
section TR4
variable {p : Program} {l : Launch} {e : Env} {R : Room} {s : State} {m : MethodId} {args : Array Value} {below : List Frame} {meth : Method} {c : Code} {H : Heap} {locs : List Loc} {cells slots : Nat} {Q : State → Prop}
variable {cc : ByteArray} {pc : Nat} {ls : Array Slot} {rest : List Value} {X : tl_X} {σ : tl_H} {a : Nat} {own : String}
theorem h_inst (C : tl_C X p s m args c cc own) (hS : tl_S X s σ H locs) {K : String} {T : u_T} {N ci index : Nat} (hc : tl_cl[ci]? = some (K, T, N)) (hlink : Cond.classLink own index K ∈ lw_all) {fs : List Value} (he : σ a = some (oO ci fs)) (hdg : decode cc pc = .ok (.instanceof index, 3))
    (kk : W p l e R s m args below meth c H locs cells slots Q (F0 m (pc + 3) ls (.int (iI 1) :: rest))) : W p l e R s m args below meth c H locs cells slots Q (F0 m pc ls (.ref a :: rest)) :=
  va_instS C.1 C.2.1 C.2.2.1 (C.2.2.2.1 _ hlink) (C.2.2.2.2.1.1 ci _ hc).2 (tl_recv C.2.2.2.2 hS he hc) hdg (by rw [show (1 : Int32) = iI 1 by decide]; exact kk)
end TR4
theorem gf_J21_191_13 {p : Program} {l : Launch} {e : Env} {R : Room} {s : State} {m : MethodId} {args : Array Value} {below : List Frame} {meth : Method} {c : Code} {H : Heap} {locs : List Loc} {cells slots : Nat} {Q : State → Prop} {cc : ByteArray} {pc : Nat} {ls : Array Slot} {rest : List Value} {X : tl_X} {σ : tl_H} {a : Nat} {fs : List Value} {v : Value} (C : tl_C X p s m args c cc RJ21) (hS : tl_S X s σ H locs) (he : σ a = some (oO 13 fs)) (hv : fs[7]? = some v) (hdg : decode cc pc = .ok (.getfield 191, 3)) (kk : W p l e R s m args below meth c H locs cells slots Q (F0 m (pc + 3) ls (v :: rest))) : W p l e R s m args below meth c H locs cells slots Q (F0 m pc ls (.ref a :: rest)) :=
  h_get (ref := "java/util/TreeMap") C hS in_J21 rfl 7 (by decide) q423 (fun _ h => h) he hv hdg kk
theorem df_J31 : ∀ j, j < 1 → defaultValue (tyJ31 j) = vp_V [.null] j := by
  intro j hj
  rcases (show j = 0 by omega) with rfl <;> rfl
theorem gp_J21_191_13 {p : Program} {l : Launch} {e : Env} {R : Room} {s : State} {m : MethodId} {args : Array Value} {below : List Frame} {meth : Method} {c : Code} {H : Heap} {locs : List Loc} {cells slots : Nat} {Q : State → Prop} {cc : ByteArray} {pc : Nat} {ls : Array Slot} {rest : List Value} {X : tl_X} {σ : tl_H} {a : Nat} {fs : List Value} {v : Value} (C : tl_C X p s m args c cc RJ21) (hS : tl_S X s σ H locs) (he : σ a = some (oO 13 fs)) (hn : narrow (tyJ21 7) v = v) (hfit : fits (tyJ21 7) v = true) (hl : 7 < fs.length) (hdg : decode cc pc = .ok (.putfield 191, 3)) (kk : ∀ (H1 : Heap) (locs1 : List Loc), tl_S X s (va_up σ a (some (oO 13 (fs.set 7 v)))) H1 locs1 → W p l e R s m args below meth c H1 locs1 cells slots Q (F0 m (pc + 3) ls rest)) : W p l e R s m args below meth c H locs cells slots Q (F0 m pc ls (v :: .ref a :: rest)) :=
  h_put (ref := "java/util/TreeMap") C hS in_J21 tyJ21 tyJ21_ok nmJ21 rfl 7 (by decide) q423 (fun _ h => h) rfl (by decide) he hn hfit hl hdg kk
set_option maxHeartbeats 4000000 in
theorem m_TM_keySet (l : Launch) (X : tl_X) (σ : tl_H) (T : Nat) (n md : Int) (rt : Option Int) (ad : Int → Nat) (hT0 : σ T = some (cT (rt.map ad) n md none)) : tl_Met l X yJ21_navigableKeySet cJ21_navigableKeySet 2 ((Option.some (FieldType.object "java/util/NavigableSet"))) 4 (1) (1) [.ref (T)] σ (tl_Qq X (fun r σ' => ∃ q : Nat, r = some q ∧ σ q = none ∧ X.2.1 ≤ q ∧ σ' = va_up (va_up σ q (some (oO 17 [.ref T]))) T (some (cT (rt.map ad) n md (some q))))) := by
  have hT0 : σ T = some (oO 13 [.null, .null, .null, va_rf (rt.map ad), .int (iI n), .int (iI md), .null, .null, .null]) := hT0
  refine tl_start (by decide) (Nat.le_of_ble_eq_true rfl) (fun p e s m below meth c ls C hr hml hlk hnm hS hl => ?_)
  have hl : lv_has ls 2 [(0, .ref (T))] := hl
  refine lv_aload_n C.1 C.2.1 dJ21_navigableKeySet_0 rfl (lv_at hl 0 rfl) ?_
  refine gf_J21_191_13 C hS hT0 rfl dJ21_navigableKeySet_1 ?_
  refine lv_astore_nN (lv' := [(1, .null), (0, .ref (T))]) C.1 C.2.1 dJ21_navigableKeySet_4 rfl hl (by decide) rfl (fun ls hl => ?_)
  refine lv_aload_nN C.1 C.2.1 dJ21_navigableKeySet_5 rfl (lv_at hl 0 rfl) ?_
  refine lv_ifnullN (tgt := 13) C.1 C.2.1 dJ21_navigableKeySet_6 (by decide) ?_
  refine lv_aload_n C.1 C.2.1 dJ21_navigableKeySet_13 rfl (lv_at hl 1 rfl) ?_
  refine h_new (ci := 17) (fs := [.null]) C hS in_J31 tyJ31 tyJ31_ok q817 q818 q89 rfl df_J31 (by show 0 + 1 ≤ 1; omega) (by show 0 + 1 ≤ 1; omega) dJ21_navigableKeySet_14 (fun q_1 H hS hq_1 hBq_1 => ?_)
  obtain ⟨σ_2, eσ_2⟩ : ∃ z, z = va_up σ q_1 (some (oO 17 [.null])) := ⟨_, rfl⟩
  rw [← eσ_2] at hS
  have he_3 := up_kq eσ_2 hq_1 hT0
  have he_4 : σ_2 q_1 = some (oO 17 [.null]) := by rw [eσ_2]; exact up_s
  refine lv_dup C.1 C.2.1 dJ21_navigableKeySet_17 rfl ?_
  refine lv_aload_n C.1 C.2.1 dJ21_navigableKeySet_18 rfl (lv_at hl 1 rfl) ?_
  refine tl_cv (t_I (n := 1) C hml hS (m_KS_init l X σ_2 q_1 T hBq_1 he_4) q819 q820 q89 q821 rfl (by decide +kernel) rfl hl.1 rfl (Nat.le_of_ble_eq_true rfl) dJ21_navigableKeySet_19 ⟨Nat.le_of_ble_eq_true rfl, Nat.le_of_ble_eq_true rfl⟩ ⟨by show 0 + 1 + (0) ≤ 1; omega, by show 0 + 1 + (0) ≤ 1; omega⟩) hS (fun σ_7 H locs hP_6 hS => ?_)
  have hqT : T ≠ q_1 := fun z => by rw [← z, hT0] at hq_1; cases hq_1
  have heT : σ_7 T = some (oO 13 [.null, .null, .null, va_rf (rt.map ad), .int (iI (n)), .int (iI (md)), .null, .null, .null]) := by rw [hP_6, up_n hqT]; exact he_3
  refine lv_dup_x1 C.1 C.2.1 dJ21_navigableKeySet_22 rfl rfl ?_
  refine gp_J21_191_13 C hS heT rfl rfl (Nat.le_of_ble_eq_true rfl) dJ21_navigableKeySet_23 (fun H locs hS => ?_)
  obtain ⟨σ_8, eσ_8⟩ : ∃ z, z = va_up σ_7 (T) (some (oO 13 [.null, .null, .null, va_rf (rt.map ad), .int (iI (n)), .int (iI (md)), .null, .ref (q_1), .null])) := ⟨_, rfl⟩
  have hS : tl_S X s σ_8 H locs := by rw [eσ_8]; exact hS
  have he_9 : σ_8 (T) = some (oO 13 [.null, .null, .null, va_rf (rt.map ad), .int (iI (n)), .int (iI (md)), .null, .ref (q_1), .null]) := by rw [eσ_8]; exact up_s
  refine W.widen (k := 1) (n := 1) (by omega) (by omega) ?_
  exact r_q (v := (some (q_1))) C hr (by first | exact Or.inl ⟨_, rfl⟩ | exact Or.inr ⟨_, rfl⟩) hlk hS ⟨q_1, rfl, hq_1, hBq_1, by rw [eσ_8, hP_6, eσ_2, up_uu]; rfl⟩ dJ21_navigableKeySet_26

theorem gq_J32_1_18 {p : Program} {l : Launch} {e : Env} {R : Room} {s : State} {m : MethodId} {args : Array Value} {below : List Frame} {meth : Method} {c : Code} {H : Heap} {locs : List Loc} {cells slots : Nat} {Q : State → Prop} {cc : ByteArray} {pc : Nat} {ls : Array Slot} {rest : List Value} {X : tl_X} {σ : tl_H} {a : Nat} {fs : List Value} {v : Value} (C : tl_C X p s m args c cc RJ32) (hin : meth.name = "<init>") (hS : tl_S X s σ H locs) (hw : X.2.1 ≤ a) (he : σ a = some (oO 18 fs)) (hn : narrow (tyJ33 3) v = v) (hfit : fits (tyJ33 3) v = true) (hl : 3 < fs.length) (hdg : decode cc pc = .ok (.putfield 1, 3)) (kk : ∀ (H1 : Heap) (locs1 : List Loc), tl_S X s (va_up σ a (some (oO 18 (fs.set 3 v)))) H1 locs1 → W p l e R s m args below meth c H1 locs1 cells slots Q (F0 m (pc + 3) ls rest)) : W p l e R s m args below meth c H locs cells slots Q (F0 m pc ls (v :: .ref a :: rest)) :=
  h_putF (ref := "java/util/TreeMap$PrivateEntryIterator") C hin hS in_J33 tyJ33 tyJ33_ok nmJ33 rfl 3 (by decide) q858 (fun _ h => h) rfl rfl hw he hn hfit hl hdg kk
theorem gf_J32_13_13 {p : Program} {l : Launch} {e : Env} {R : Room} {s : State} {m : MethodId} {args : Array Value} {below : List Frame} {meth : Method} {c : Code} {H : Heap} {locs : List Loc} {cells slots : Nat} {Q : State → Prop} {cc : ByteArray} {pc : Nat} {ls : Array Slot} {rest : List Value} {X : tl_X} {σ : tl_H} {a : Nat} {fs : List Value} {v : Value} (C : tl_C X p s m args c cc RJ32) (hS : tl_S X s σ H locs) (he : σ a = some (oO 13 fs)) (hv : fs[5]? = some v) (hdg : decode cc pc = .ok (.getfield 13, 3)) (kk : W p l e R s m args below meth c H locs cells slots Q (F0 m (pc + 3) ls (v :: rest))) : W p l e R s m args below meth c H locs cells slots Q (F0 m pc ls (.ref a :: rest)) :=
  h_getN (host := "java/util/TreeMap") (ref := "java/util/TreeMap") C hS in_J21 rfl 5 (by decide) (by decide +kernel) (fun _ h => h) he hv hdg kk
theorem gp_J32_19_18 {p : Program} {l : Launch} {e : Env} {R : Room} {s : State} {m : MethodId} {args : Array Value} {below : List Frame} {meth : Method} {c : Code} {H : Heap} {locs : List Loc} {cells slots : Nat} {Q : State → Prop} {cc : ByteArray} {pc : Nat} {ls : Array Slot} {rest : List Value} {X : tl_X} {σ : tl_H} {a : Nat} {fs : List Value} {v : Value} (C : tl_C X p s m args c cc RJ32) (hS : tl_S X s σ H locs) (he : σ a = some (oO 18 fs)) (hn : narrow (tyJ33 2) v = v) (hfit : fits (tyJ33 2) v = true) (hl : 2 < fs.length) (hdg : decode cc pc = .ok (.putfield 19, 3)) (kk : ∀ (H1 : Heap) (locs1 : List Loc), tl_S X s (va_up σ a (some (oO 18 (fs.set 2 v)))) H1 locs1 → W p l e R s m args below meth c H1 locs1 cells slots Q (F0 m (pc + 3) ls rest)) : W p l e R s m args below meth c H locs cells slots Q (F0 m pc ls (v :: .ref a :: rest)) :=
  h_put (ref := "java/util/TreeMap$PrivateEntryIterator") C hS in_J33 tyJ33 tyJ33_ok nmJ33 rfl 2 (by decide) q857 (fun _ h => h) rfl (by decide) he hn hfit hl hdg kk
theorem gp_J32_22_18 {p : Program} {l : Launch} {e : Env} {R : Room} {s : State} {m : MethodId} {args : Array Value} {below : List Frame} {meth : Method} {c : Code} {H : Heap} {locs : List Loc} {cells slots : Nat} {Q : State → Prop} {cc : ByteArray} {pc : Nat} {ls : Array Slot} {rest : List Value} {X : tl_X} {σ : tl_H} {a : Nat} {fs : List Value} {v : Value} (C : tl_C X p s m args c cc RJ32) (hS : tl_S X s σ H locs) (he : σ a = some (oO 18 fs)) (hn : narrow (tyJ33 1) v = v) (hfit : fits (tyJ33 1) v = true) (hl : 1 < fs.length) (hdg : decode cc pc = .ok (.putfield 22, 3)) (kk : ∀ (H1 : Heap) (locs1 : List Loc), tl_S X s (va_up σ a (some (oO 18 (fs.set 1 v)))) H1 locs1 → W p l e R s m args below meth c H1 locs1 cells slots Q (F0 m (pc + 3) ls rest)) : W p l e R s m args below meth c H locs cells slots Q (F0 m pc ls (v :: .ref a :: rest)) :=
  h_put (ref := "java/util/TreeMap$PrivateEntryIterator") C hS in_J33 tyJ33 tyJ33_ok nmJ33 rfl 1 (by decide) q856 (fun _ h => h) rfl (by decide) he hn hfit hl hdg kk
theorem gp_J32_26_18 {p : Program} {l : Launch} {e : Env} {R : Room} {s : State} {m : MethodId} {args : Array Value} {below : List Frame} {meth : Method} {c : Code} {H : Heap} {locs : List Loc} {cells slots : Nat} {Q : State → Prop} {cc : ByteArray} {pc : Nat} {ls : Array Slot} {rest : List Value} {X : tl_X} {σ : tl_H} {a : Nat} {fs : List Value} {v : Value} (C : tl_C X p s m args c cc RJ32) (hS : tl_S X s σ H locs) (he : σ a = some (oO 18 fs)) (hn : narrow (tyJ33 0) v = v) (hfit : fits (tyJ33 0) v = true) (hl : 0 < fs.length) (hdg : decode cc pc = .ok (.putfield 26, 3)) (kk : ∀ (H1 : Heap) (locs1 : List Loc), tl_S X s (va_up σ a (some (oO 18 (fs.set 0 v)))) H1 locs1 → W p l e R s m args below meth c H1 locs1 cells slots Q (F0 m (pc + 3) ls rest)) : W p l e R s m args below meth c H locs cells slots Q (F0 m pc ls (v :: .ref a :: rest)) :=
  h_put (ref := "java/util/TreeMap$PrivateEntryIterator") C hS in_J33 tyJ33 tyJ33_ok nmJ33 rfl 0 (by decide) q855 (fun _ h => h) rfl (by decide) he hn hfit hl hdg kk
set_option maxHeartbeats 4000000 in
theorem m_PI_init (l : Launch) (X : tl_X) (σ : tl_H) (it T a : Nat) (rt : Option Nat) (n md : Int) (ks : Option Nat) (hw : X.2.1 ≤ it) (hit : σ it = some (oO 18 [.null, .null, .int (iI 0), .null])) (hT0 : σ T = some (cT rt n md ks)) : tl_Met l X yJ32_init cJ32_init 3 ((Option.none : Option FieldType)) 1 (0) (0) [.ref (it), .ref (T), .ref (a)] σ (tl_Qv X (fun σ' => σ' = va_up σ it (some (cKI (some a) none md T)))) := by
  refine tl_start (by decide) (Nat.le_of_ble_eq_true rfl) (fun p e s m below meth c ls C hr hml hlk hnm hS hl => ?_)
  have hl : lv_has ls 3 [(0, .ref (it)), (1, .ref (T)), (2, .ref (a))] := hl
  refine lv_aload_n C.1 C.2.1 dJ32_init_0 rfl (lv_at hl 0 rfl) ?_
  refine lv_aload_n C.1 C.2.1 dJ32_init_1 rfl (lv_at hl 1 rfl) ?_
  refine gq_J32_1_18 C hnm hS hw hit rfl rfl (Nat.le_of_ble_eq_true rfl) dJ32_init_2 (fun H locs hS => ?_)
  obtain ⟨σ_1, eσ_1⟩ : ∃ z, z = va_up σ (it) (some (oO 18 [.null, .null, .int (iI (0)), .ref (T)])) := ⟨_, rfl⟩
  have hS : tl_S X s σ_1 H locs := by rw [eσ_1]; exact hS
  have he_2 : σ_1 (it) = some (oO 18 [.null, .null, .int (iI (0)), .ref (T)]) := by rw [eσ_1]; exact up_s
  have he_3 := up_kp eσ_1 (tl_ne hT0 hit (by decide)) hT0
  refine lv_aload_n C.1 C.2.1 dJ32_init_5 rfl (lv_at hl 0 rfl) ?_
  refine h_obj C hml hl.1 q854 dJ32_init_6 (by show 1 ≤ 1; decide) (by show 40 ≤ 40 * 1; decide) (Nat.le_of_ble_eq_true rfl) ?_
  refine lv_aload_n C.1 C.2.1 dJ32_init_9 rfl (lv_at hl 0 rfl) ?_
  refine lv_aload_n C.1 C.2.1 dJ32_init_10 rfl (lv_at hl 1 rfl) ?_
  refine gf_J32_13_13 C hS he_3 rfl dJ32_init_11 ?_
  refine gp_J32_19_18 C hS he_2 rfl rfl (Nat.le_of_ble_eq_true rfl) dJ32_init_14 (fun H locs hS => ?_)
  obtain ⟨σ_4, eσ_4⟩ : ∃ z, z = va_up σ_1 (it) (some (oO 18 [.null, .null, .int (iI (md)), .ref (T)])) := ⟨_, rfl⟩
  have hS : tl_S X s σ_4 H locs := by rw [eσ_4]; exact hS
  have he_5 : σ_4 (it) = some (oO 18 [.null, .null, .int (iI (md)), .ref (T)]) := by rw [eσ_4]; exact up_s
  have he_6 := up_kp eσ_4 (tl_ne he_3 he_2 (by decide)) he_3
  refine lv_aload_n C.1 C.2.1 dJ32_init_17 rfl (lv_at hl 0 rfl) ?_
  refine lv_null C.1 C.2.1 dJ32_init_18 ?_
  refine gp_J32_22_18 C hS he_5 rfl rfl (Nat.le_of_ble_eq_true rfl) dJ32_init_19 (fun H locs hS => ?_)
  obtain ⟨σ_7, eσ_7⟩ : ∃ z, z = va_up σ_4 (it) (some (oO 18 [.null, .null, .int (iI (md)), .ref (T)])) := ⟨_, rfl⟩
  have hS : tl_S X s σ_7 H locs := by rw [eσ_7]; exact hS
  have he_8 : σ_7 (it) = some (oO 18 [.null, .null, .int (iI (md)), .ref (T)]) := by rw [eσ_7]; exact up_s
  have he_9 := up_kp eσ_7 (tl_ne he_6 he_5 (by decide)) he_6
  refine lv_aload_n C.1 C.2.1 dJ32_init_22 rfl (lv_at hl 0 rfl) ?_
  refine lv_aload_n C.1 C.2.1 dJ32_init_23 rfl (lv_at hl 2 rfl) ?_
  refine gp_J32_26_18 C hS he_8 rfl rfl (Nat.le_of_ble_eq_true rfl) dJ32_init_24 (fun H locs hS => ?_)
  obtain ⟨σ_10, eσ_10⟩ : ∃ z, z = va_up σ_7 (it) (some (oO 18 [.ref (a), .null, .int (iI (md)), .ref (T)])) := ⟨_, rfl⟩
  have hS : tl_S X s σ_10 H locs := by rw [eσ_10]; exact hS
  have he_11 : σ_10 (it) = some (oO 18 [.ref (a), .null, .int (iI (md)), .ref (T)]) := by rw [eσ_10]; exact up_s
  have he_12 := up_kp eσ_10 (tl_ne he_9 he_8 (by decide)) he_9
  exact r_v C hr hlk hS (by rw [eσ_10, eσ_7, eσ_4, eσ_1, up_uu, up_uu, up_uu]; rfl) dJ32_init_27

set_option maxHeartbeats 4000000 in
theorem m_KI_init (l : Launch) (X : tl_X) (σ : tl_H) (it T a : Nat) (rt : Option Nat) (n md : Int) (ks : Option Nat) (hw : X.2.1 ≤ it) (hit : σ it = some (oO 18 [.null, .null, .int (iI 0), .null])) (hT0 : σ T = some (cT rt n md ks)) : tl_Met l X yJ33_init cJ33_init 3 ((Option.none : Option FieldType)) 2 (0) (0) [.ref (it), .ref (T), .ref (a)] σ (tl_Qv X (fun σ' => σ' = va_up σ it (some (cKI (some a) none md T)))) := by
  refine tl_start (by decide) (Nat.le_of_ble_eq_true rfl) (fun p e s m below meth c ls C hr hml hlk hnm hS hl => ?_)
  have hl : lv_has ls 3 [(0, .ref (it)), (1, .ref (T)), (2, .ref (a))] := hl
  refine lv_aload_n C.1 C.2.1 dJ33_init_0 rfl (lv_at hl 0 rfl) ?_
  refine lv_aload_n C.1 C.2.1 dJ33_init_1 rfl (lv_at hl 1 rfl) ?_
  refine lv_aload_n C.1 C.2.1 dJ33_init_2 rfl (lv_at hl 2 rfl) ?_
  refine tl_cv (t_I (n := 2) C hml hS (m_PI_init l X σ it T a rt n md ks hw hit hT0) q851 q852 q90 q853 rfl (by decide +kernel) rfl hl.1 rfl (Nat.le_of_ble_eq_true rfl) dJ33_init_3 ⟨Nat.le_of_ble_eq_true rfl, Nat.le_of_ble_eq_true rfl⟩ ⟨Nat.le_refl _, Nat.le_refl _⟩) hS (fun σ_3 H locs hP_2 hS => ?_)
  exact r_v C hr hlk hS hP_2 dJ33_init_6

theorem df_J33 : ∀ j, j < 4 → defaultValue (tyJ33 j) = vp_V [.null, .null, .int (iI (0)), .null] j := by
  intro j hj
  rcases (show j = 0 ∨ j = 1 ∨ j = 2 ∨ j = 3 by omega) with rfl | rfl | rfl | rfl <;> rfl
set_option maxHeartbeats 4000000 in
theorem m_TM_keyIterator (l : Launch) (X : tl_X) (σ : tl_H) (T : Nat) (n md : Int) (ks : Option Nat) (N : Int) (S : Int → Prop) (rt : Option Int) (lf rg pa : Int → Option Int) (lo hi co : Int → Int) (ad kr : Int → Nat) (hT : TM X σ T n md ks S rt lf rg pa co ad kr) (hB : BT N S rt lf rg pa lo hi) (k0 : Int) (hk0 : rt = some k0) (hN : ∀ j, S j → -N < j) : tl_Met l X yJ21_keyIterator cJ21_keyIterator 1 ((Option.some (FieldType.object "java/util/Iterator"))) 3 (1) (4) [.ref (T)] σ (tl_Qq X (fun r σ' => (∃ (it : Nat) (k : Int), r = some it ∧ σ it = none ∧ X.2.1 ≤ it ∧ S k ∧ (∀ j, S j → k ≤ j) ∧ σ' = va_up σ it (some (cKI (some (ad k)) none md T))))) := by
  refine tl_start (by decide) (Nat.le_of_ble_eq_true rfl) (fun p e s m below meth c ls C hr hml hlk hnm hS hl => ?_)
  have hl : lv_has ls 1 [(0, .ref (T))] := hl
  refine h_new (ci := 18) (fs := [.null, .null, .int (iI (0)), .null]) C hS in_J33 tyJ33 tyJ33_ok q842 q843 q91 rfl df_J33 (by show 0 + 1 ≤ 1; omega) (by show 0 + 4 ≤ 4; omega) dJ21_keyIterator_0 (fun q_1 H hS hq_1 hBq_1 => ?_)
  obtain ⟨σ_2, eσ_2⟩ : ∃ z, z = va_up σ q_1 (some (oO 18 [.null, .null, .int (iI (0)), .null])) := ⟨_, rfl⟩
  rw [← eσ_2] at hS
  have he_3 := up_kq eσ_2 hq_1 hT.1
  have he_4 : σ_2 q_1 = some (oO 18 [.null, .null, .int (iI (0)), .null]) := by rw [eσ_2]; exact up_s
  refine lv_dup C.1 C.2.1 dJ21_keyIterator_3 rfl ?_
  refine lv_aload_n C.1 C.2.1 dJ21_keyIterator_4 rfl (lv_at hl 0 rfl) ?_
  refine lv_aload_n C.1 C.2.1 dJ21_keyIterator_5 rfl (lv_at hl 0 rfl) ?_
  refine tl_cq (t_V (n := 0) (ci := 13) C hml hS (m_first l X σ_2 T n md ks N S rt lf rg pa lo hi co ad kr (hT.new eσ_2 hq_1) hB k0 hk0 hN) q844 q845 q846 q74 q847 (by decide +kernel) he_3 rfl rfl hl.1 rfl (Nat.le_of_ble_eq_true rfl) dJ21_keyIterator_6 ⟨Nat.le_of_ble_eq_true rfl, Nat.le_of_ble_eq_true rfl⟩ ⟨by show 0 + 1 + (0) ≤ 1; omega, by show 0 + 4 + (0) ≤ 4; omega⟩) hS (fun r_5 σ_7 H locs hP_6 hS => ?_)
  obtain ⟨⟨k, sk, hmin, rfl⟩, rfl⟩ := hP_6
  refine tl_cv (t_I (n := 2) C hml hS (m_KI_init l X σ_2 q_1 T (ad k) (rt.map ad) n md ks hBq_1 he_4 he_3) q848 q849 q91 q850 rfl (by decide +kernel) rfl hl.1 rfl (Nat.le_of_ble_eq_true rfl) dJ21_keyIterator_9 ⟨Nat.le_of_ble_eq_true rfl, Nat.le_of_ble_eq_true rfl⟩ ⟨by show 0 + 1 + (0) ≤ 1; omega, by show 0 + 4 + (0) ≤ 4; omega⟩) hS (fun σ_10 H locs hP_9 hS => ?_)
  refine W.widen (k := 1) (n := 4) (by omega) (by omega) ?_
  exact r_q (v := (some (q_1))) C hr (by first | exact Or.inl ⟨_, rfl⟩ | exact Or.inr ⟨_, rfl⟩) hlk hS ⟨q_1, k, rfl, hq_1, hBq_1, sk, hmin, by rw [hP_9, eσ_2, up_uu]⟩ dJ21_keyIterator_12

theorem gf_J31_7_17 {p : Program} {l : Launch} {e : Env} {R : Room} {s : State} {m : MethodId} {args : Array Value} {below : List Frame} {meth : Method} {c : Code} {H : Heap} {locs : List Loc} {cells slots : Nat} {Q : State → Prop} {cc : ByteArray} {pc : Nat} {ls : Array Slot} {rest : List Value} {X : tl_X} {σ : tl_H} {a : Nat} {fs : List Value} {v : Value} (C : tl_C X p s m args c cc RJ31) (hS : tl_S X s σ H locs) (he : σ a = some (oO 17 fs)) (hv : fs[0]? = some v) (hdg : decode cc pc = .ok (.getfield 7, 3)) (kk : W p l e R s m args below meth c H locs cells slots Q (F0 m (pc + 3) ls (v :: rest))) : W p l e R s m args below meth c H locs cells slots Q (F0 m pc ls (.ref a :: rest)) :=
  h_get (ref := "java/util/TreeMap$KeySet") C hS in_J31 rfl 0 (by decide) q823 (fun _ h => h) he hv hdg kk
set_option maxHeartbeats 4000000 in
theorem m_KS_iterator (l : Launch) (X : tl_X) (σ : tl_H) (T : Nat) (n md : Int) (ks : Option Nat) (N : Int) (S : Int → Prop) (rt : Option Int) (lf rg pa : Int → Option Int) (lo hi co : Int → Int) (ad kr : Int → Nat) (hT : TM X σ T n md ks S rt lf rg pa co ad kr) (hB : BT N S rt lf rg pa lo hi) (k0 : Int) (hk0 : rt = some k0) (hN : ∀ j, S j → -N < j) (ka : Nat) (hka : σ ka = some (oO 17 [.ref T])) : tl_Met l X yJ31_iterator cJ31_iterator 1 ((Option.some (FieldType.object "java/util/Iterator"))) 4 (1) (4) [.ref (ka)] σ (tl_Qq X (fun r σ' => (∃ (it : Nat) (k : Int), r = some it ∧ σ it = none ∧ X.2.1 ≤ it ∧ S k ∧ (∀ j, S j → k ≤ j) ∧ σ' = va_up σ it (some (cKI (some (ad k)) none md T))))) := by
  refine tl_start (by decide) (Nat.le_of_ble_eq_true rfl) (fun p e s m below meth c ls C hr hml hlk hnm hS hl => ?_)
  have hl : lv_has ls 1 [(0, .ref (ka))] := hl
  refine lv_aload_n C.1 C.2.1 dJ31_iterator_0 rfl (lv_at hl 0 rfl) ?_
  refine gf_J31_7_17 C hS hka rfl dJ31_iterator_1 ?_
  refine h_inst (ci := 13) C hS rfl q837 hT.1 dJ31_iterator_4 ?_
  refine ti_if_eq (tgt := 21) C.1 C.2.1 dJ31_iterator_7 (by decide) ⟨by decide, by decide⟩ (fun hc_1 => ?_) (fun hc_1 => ?_)
  · skip
    exact absurd hc_1 (by decide)
  · skip
    refine lv_aload_n C.1 C.2.1 dJ31_iterator_10 rfl (lv_at hl 0 rfl) ?_
    refine gf_J31_7_17 C hS hka rfl dJ31_iterator_11 ?_
    refine h_cast (ci := 13) C hS rfl q837 hT.1 dJ31_iterator_14 ?_
    refine tl_cq (t_V (n := 0) (ci := 13) C hml hS (m_TM_keyIterator l X σ T n md ks N S rt lf rg pa lo hi co ad kr hT hB k0 hk0 hN) q838 q839 q840 q74 q841 (by decide +kernel) hT.1 rfl rfl hl.1 rfl (Nat.le_of_ble_eq_true rfl) dJ31_iterator_17 ⟨Nat.le_of_ble_eq_true rfl, Nat.le_of_ble_eq_true rfl⟩ ⟨by show 0 + (1) ≤ 1; omega, by show 0 + (4) ≤ 4; omega⟩) hS (fun r_2 σ_4 H locs hP_3 hS => ?_)
    refine W.widen (k := 1) (n := 4) (by omega) (by omega) ?_
    exact r_q (v := (r_2)) C hr (by first | exact Or.inl ⟨_, rfl⟩ | exact Or.inr ⟨_, rfl⟩) hlk hS hP_3 dJ31_iterator_20

theorem gf_J32_26_18 {p : Program} {l : Launch} {e : Env} {R : Room} {s : State} {m : MethodId} {args : Array Value} {below : List Frame} {meth : Method} {c : Code} {H : Heap} {locs : List Loc} {cells slots : Nat} {Q : State → Prop} {cc : ByteArray} {pc : Nat} {ls : Array Slot} {rest : List Value} {X : tl_X} {σ : tl_H} {a : Nat} {fs : List Value} {v : Value} (C : tl_C X p s m args c cc RJ32) (hS : tl_S X s σ H locs) (he : σ a = some (oO 18 fs)) (hv : fs[0]? = some v) (hdg : decode cc pc = .ok (.getfield 26, 3)) (kk : W p l e R s m args below meth c H locs cells slots Q (F0 m (pc + 3) ls (v :: rest))) : W p l e R s m args below meth c H locs cells slots Q (F0 m pc ls (.ref a :: rest)) :=
  h_get (ref := "java/util/TreeMap$PrivateEntryIterator") C hS in_J33 rfl 0 (by decide) q855 (fun _ h => h) he hv hdg kk
set_option maxHeartbeats 4000000 in
theorem m_KI_hasNext_n (l : Launch) (X : tl_X) (σ : tl_H) (it T : Nat) (la : Option Nat) (md : Int) (hit : σ it = some (cKI none la md T)) : tl_Met l X yJ32_hasNext cJ32_hasNext 1 ((Option.some FieldType.boolean)) 1 (0) (0) [.ref (it)] σ (tl_Qi X (fun r σ' => r = iI (0) ∧ σ = σ')) := by
  refine tl_start (by decide) (Nat.le_of_ble_eq_true rfl) (fun p e s m below meth c ls C hr hml hlk hnm hS hl => ?_)
  have hl : lv_has ls 1 [(0, .ref (it))] := hl
  refine lv_aload_n C.1 C.2.1 dJ32_hasNext_0 rfl (lv_at hl 0 rfl) ?_
  refine gf_J32_26_18 C hS hit rfl dJ32_hasNext_1 ?_
  refine lv_ifnullN (tgt := 11) C.1 C.2.1 dJ32_hasNext_4 (by decide) ?_
  refine ti_const C.1 C.2.1 dJ32_hasNext_11 ?_
  exact r_z (z := 0) C hr hlk hS (by first | exact tb01 _ | omega | decide) ⟨rfl, rfl⟩ dJ32_hasNext_12

set_option maxHeartbeats 4000000 in
theorem m_KI_hasNext_r (l : Launch) (X : tl_X) (σ : tl_H) (it T na : Nat) (la : Option Nat) (md : Int) (hit : σ it = some (cKI (some na) la md T)) : tl_Met l X yJ32_hasNext cJ32_hasNext 1 ((Option.some FieldType.boolean)) 1 (0) (0) [.ref (it)] σ (tl_Qi X (fun r σ' => r = iI (1) ∧ σ = σ')) := by
  refine tl_start (by decide) (Nat.le_of_ble_eq_true rfl) (fun p e s m below meth c ls C hr hml hlk hnm hS hl => ?_)
  have hl : lv_has ls 1 [(0, .ref (it))] := hl
  refine lv_aload_n C.1 C.2.1 dJ32_hasNext_0 rfl (lv_at hl 0 rfl) ?_
  refine gf_J32_26_18 C hS hit rfl dJ32_hasNext_1 ?_
  refine lv_ifnull C.1 C.2.1 dJ32_hasNext_4 ?_
  refine ti_const C.1 C.2.1 dJ32_hasNext_7 ?_
  refine lv_goto (tgt := 12) C.1 C.2.1 dJ32_hasNext_8 (by decide) ?_
  exact r_z (z := 1) C hr hlk hS (by first | exact tb01 _ | omega | decide) ⟨rfl, rfl⟩ dJ32_hasNext_12

theorem gf_J32_1_18 {p : Program} {l : Launch} {e : Env} {R : Room} {s : State} {m : MethodId} {args : Array Value} {below : List Frame} {meth : Method} {c : Code} {H : Heap} {locs : List Loc} {cells slots : Nat} {Q : State → Prop} {cc : ByteArray} {pc : Nat} {ls : Array Slot} {rest : List Value} {X : tl_X} {σ : tl_H} {a : Nat} {fs : List Value} {v : Value} (C : tl_C X p s m args c cc RJ32) (hS : tl_S X s σ H locs) (he : σ a = some (oO 18 fs)) (hv : fs[3]? = some v) (hdg : decode cc pc = .ok (.getfield 1, 3)) (kk : W p l e R s m args below meth c H locs cells slots Q (F0 m (pc + 3) ls (v :: rest))) : W p l e R s m args below meth c H locs cells slots Q (F0 m pc ls (.ref a :: rest)) :=
  h_get (ref := "java/util/TreeMap$PrivateEntryIterator") C hS in_J33 rfl 3 (by decide) q858 (fun _ h => h) he hv hdg kk
theorem gf_J32_19_18 {p : Program} {l : Launch} {e : Env} {R : Room} {s : State} {m : MethodId} {args : Array Value} {below : List Frame} {meth : Method} {c : Code} {H : Heap} {locs : List Loc} {cells slots : Nat} {Q : State → Prop} {cc : ByteArray} {pc : Nat} {ls : Array Slot} {rest : List Value} {X : tl_X} {σ : tl_H} {a : Nat} {fs : List Value} {v : Value} (C : tl_C X p s m args c cc RJ32) (hS : tl_S X s σ H locs) (he : σ a = some (oO 18 fs)) (hv : fs[2]? = some v) (hdg : decode cc pc = .ok (.getfield 19, 3)) (kk : W p l e R s m args below meth c H locs cells slots Q (F0 m (pc + 3) ls (v :: rest))) : W p l e R s m args below meth c H locs cells slots Q (F0 m pc ls (.ref a :: rest)) :=
  h_get (ref := "java/util/TreeMap$PrivateEntryIterator") C hS in_J33 rfl 2 (by decide) q857 (fun _ h => h) he hv hdg kk
set_option maxHeartbeats 4000000 in
theorem m_KI_nextEntry (l : Launch) (X : tl_X) (σ : tl_H) (T : Nat) (n md : Int) (ks : Option Nat) (N : Int) (S : Int → Prop) (rt : Option Int) (lf rg pa : Int → Option Int) (lo hi co : Int → Int) (ad kr : Int → Nat) (hT : TM X σ T n md ks S rt lf rg pa co ad kr) (hB : BT N S rt lf rg pa lo hi) (x : Int) (hx : S x) (hN : ∀ j, S j → j < N) (it : Nat) (la : Option Nat) (hit : σ it = some (cKI (some (ad x)) la md T)) : tl_Met l X yJ32_nextEntry cJ32_nextEntry 2 ((Option.some (FieldType.object "java/util/TreeMap$Entry"))) 2 (0) (0) [.ref (it)] σ (tl_Qq X (fun r σ' => (r = some (ad x) ∧ ((∃ k : Int, S k ∧ x < k ∧ (∀ j, S j → x < j → k ≤ j) ∧ σ' = va_up σ it (some (cKI (some (ad k)) (some (ad x)) md T))) ∨ ((∀ j, S j → j ≤ x) ∧ σ' = va_up σ it (some (cKI none (some (ad x)) md T))))))) := by
  refine tl_start (by decide) (Nat.le_of_ble_eq_true rfl) (fun p e s m below meth c ls C hr hml hlk hnm hS hl => ?_)
  have hl : lv_has ls 2 [(0, .ref (it))] := hl
  refine lv_aload_n C.1 C.2.1 dJ32_nextEntry_0 rfl (lv_at hl 0 rfl) ?_
  refine gf_J32_26_18 C hS hit rfl dJ32_nextEntry_1 ?_
  refine lv_astore_n (lv' := [(1, .ref (ad x)), (0, .ref (it))]) C.1 C.2.1 dJ32_nextEntry_4 rfl hl (by decide) rfl (fun ls hl => ?_)
  refine lv_aload_n C.1 C.2.1 dJ32_nextEntry_5 rfl (lv_at hl 0 rfl) ?_
  refine lv_ifnonnull (tgt := 17) C.1 C.2.1 dJ32_nextEntry_6 (by decide) ?_
  refine lv_aload_n C.1 C.2.1 dJ32_nextEntry_17 rfl (lv_at hl 1 rfl) ?_
  refine gf_J32_1_18 C hS hit rfl dJ32_nextEntry_18 ?_
  refine gf_J32_13_13 C hS hT.1 rfl dJ32_nextEntry_21 ?_
  refine lv_aload_n C.1 C.2.1 dJ32_nextEntry_24 rfl (lv_at hl 1 rfl) ?_
  refine gf_J32_19_18 C hS hit rfl dJ32_nextEntry_25 ?_
  refine lv_icmp_eq (tgt := 39) C.1 C.2.1 dJ32_nextEntry_28 (by decide) (fun hc_1 => ?_) (fun hc_1 => ?_)
  · skip
    refine lv_aload_n C.1 C.2.1 dJ32_nextEntry_39 rfl (lv_at hl 1 rfl) ?_
    refine lv_aload_n C.1 C.2.1 dJ32_nextEntry_40 rfl (lv_at hl 0 rfl) ?_
    refine tl_cq (t_S (n := 1) C hml hS (m_succ l X σ T n md ks N S rt lf rg pa lo hi co ad kr hT hB x hx hN) q387 q388 q74 q389 (by decide +kernel) rfl hl.1 rfl (Nat.le_of_ble_eq_true rfl) dJ32_nextEntry_41 ⟨Nat.le_of_ble_eq_true rfl, Nat.le_of_ble_eq_true rfl⟩ ⟨Nat.le_refl _, Nat.le_refl _⟩) hS (fun r_2 σ_4 H locs hP_3 hS => ?_)
    obtain ⟨hs, rfl⟩ := hP_3
    refine gp_J32_26_18 C hS hit (by generalize (r_2) = z; cases z <;> rfl) (by generalize (r_2) = z; cases z <;> rfl) (Nat.le_of_ble_eq_true rfl) dJ32_nextEntry_44 (fun H locs hS => ?_)
    obtain ⟨σ_5, eσ_5⟩ : ∃ z, z = va_up σ (it) (some (oO 18 [va_rf (r_2), va_rf (la), .int (iI (md)), .ref (T)])) := ⟨_, rfl⟩
    have hS : tl_S X s σ_5 H locs := by rw [eσ_5]; exact hS
    have he_6 := up_kp eσ_5 (tl_ne hT.1 hit (by decide)) hT.1
    have he_7 : σ_5 (it) = some (oO 18 [va_rf (r_2), va_rf (la), .int (iI (md)), .ref (T)]) := by rw [eσ_5]; exact up_s
    refine lv_aload_n C.1 C.2.1 dJ32_nextEntry_47 rfl (lv_at hl 1 rfl) ?_
    refine lv_aload_n C.1 C.2.1 dJ32_nextEntry_48 rfl (lv_at hl 0 rfl) ?_
    refine gp_J32_22_18 C hS he_7 rfl rfl (Nat.le_of_ble_eq_true rfl) dJ32_nextEntry_49 (fun H locs hS => ?_)
    obtain ⟨σ_8, eσ_8⟩ : ∃ z, z = va_up σ_5 (it) (some (oO 18 [va_rf (r_2), .ref (ad x), .int (iI (md)), .ref (T)])) := ⟨_, rfl⟩
    have hS : tl_S X s σ_8 H locs := by rw [eσ_8]; exact hS
    have he_9 := up_kp eσ_8 (tl_ne he_6 he_7 (by decide)) he_6
    have he_10 : σ_8 (it) = some (oO 18 [va_rf (r_2), .ref (ad x), .int (iI (md)), .ref (T)]) := by rw [eσ_8]; exact up_s
    refine lv_aload_n C.1 C.2.1 dJ32_nextEntry_52 rfl (lv_at hl 0 rfl) ?_
    exact r_q (v := (some (ad x))) C hr (by first | exact Or.inl ⟨_, rfl⟩ | exact Or.inr ⟨_, rfl⟩) hlk hS ⟨rfl, hs.elim (fun ⟨k, g1, g2, g3, g4⟩ => Or.inl ⟨k, g1, g2, g3, by rw [eσ_8, eσ_5, up_uu, g4]; rfl⟩) (fun ⟨g1, g4⟩ => Or.inr ⟨g1, by rw [eσ_8, eσ_5, up_uu, g4]; rfl⟩)⟩ dJ32_nextEntry_53
  · skip
    exact absurd rfl hc_1

theorem gf_J33_13_16 {p : Program} {l : Launch} {e : Env} {R : Room} {s : State} {m : MethodId} {args : Array Value} {below : List Frame} {meth : Method} {c : Code} {H : Heap} {locs : List Loc} {cells slots : Nat} {Q : State → Prop} {cc : ByteArray} {pc : Nat} {ls : Array Slot} {rest : List Value} {X : tl_X} {σ : tl_H} {a : Nat} {fs : List Value} {v : Value} (C : tl_C X p s m args c cc RJ33) (hS : tl_S X s σ H locs) (he : σ a = some (oO 16 fs)) (hv : fs[0]? = some v) (hdg : decode cc pc = .ok (.getfield 13, 3)) (kk : W p l e R s m args below meth c H locs cells slots Q (F0 m (pc + 3) ls (v :: rest))) : W p l e R s m args below meth c H locs cells slots Q (F0 m pc ls (.ref a :: rest)) :=
  h_get (ref := "java/util/TreeMap$Entry") C hS in_J30 rfl 0 (by decide) q741 (fun _ h => h) he hv hdg kk
set_option maxHeartbeats 4000000 in
theorem m_KI_next (l : Launch) (X : tl_X) (σ : tl_H) (T : Nat) (n md : Int) (ks : Option Nat) (N : Int) (S : Int → Prop) (rt : Option Int) (lf rg pa : Int → Option Int) (lo hi co : Int → Int) (ad kr : Int → Nat) (hT : TM X σ T n md ks S rt lf rg pa co ad kr) (hB : BT N S rt lf rg pa lo hi) (x : Int) (hx : S x) (hN : ∀ j, S j → j < N) (it : Nat) (la : Option Nat) (hit : σ it = some (cKI (some (ad x)) la md T)) : tl_Met l X yJ33_next cJ33_next 1 ((Option.some (FieldType.object "java/lang/Object"))) 3 (0) (0) [.ref (it)] σ (tl_Qq X (fun r σ' => (r = some (kr x) ∧ ((∃ k : Int, S k ∧ x < k ∧ (∀ j, S j → x < j → k ≤ j) ∧ σ' = va_up σ it (some (cKI (some (ad k)) (some (ad x)) md T))) ∨ ((∀ j, S j → j ≤ x) ∧ σ' = va_up σ it (some (cKI none (some (ad x)) md T))))))) := by
  refine tl_start (by decide) (Nat.le_of_ble_eq_true rfl) (fun p e s m below meth c ls C hr hml hlk hnm hS hl => ?_)
  have hl : lv_has ls 1 [(0, .ref (it))] := hl
  refine lv_aload_n C.1 C.2.1 dJ33_next_0 rfl (lv_at hl 0 rfl) ?_
  refine tl_cq (t_U (n := 0) (ci := 18) (K := RJ33) C hml hS (m_KI_nextEntry l X σ T n md ks N S rt lf rg pa lo hi co ad kr hT hB x hx hN it la hit) q381 q382 q384 q385 q90 q386 rfl (by decide +kernel) hit rfl rfl hl.1 rfl (Nat.le_of_ble_eq_true rfl) dJ33_next_1 ⟨Nat.le_of_ble_eq_true rfl, Nat.le_of_ble_eq_true rfl⟩ ⟨Nat.le_refl _, Nat.le_refl _⟩) hS (fun r_1 σ_3 H locs hP_2 hS => ?_)
  obtain ⟨rfl, hs⟩ := hP_2
  have hex : σ_3 (ad x) = some (oO 16 [.ref (kr x), .ref (X.2.2.2 1), va_rf ((lf x).map ad), va_rf ((rg x).map ad), va_rf ((pa x).map ad), .int (iI (co x))]) := by
    have hne : ad x ≠ it := tl_ne (hT.2.1 x hx).1 hit (by decide)
    rcases hs with ⟨k, -, -, -, e1⟩ | ⟨-, e1⟩ <;> (rw [e1, up_n hne]; exact (hT.2.1 x hx).1)
  refine gf_J33_13_16 C hS hex rfl dJ33_next_4 ?_
  exact r_q (v := (some (kr x))) C hr (by first | exact Or.inl ⟨_, rfl⟩ | exact Or.inr ⟨_, rfl⟩) hlk hS ⟨rfl, hs⟩ dJ33_next_7

