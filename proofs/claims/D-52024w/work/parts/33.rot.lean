/-! TREEMAP's heap; rotations (printed by gen_tree2.py) -/
set_option maxRecDepth 100000
theorem tl_cat (r : Option Nat) : (va_rf r).category = 1 := by cases r <;> rfl
/-- no cell of a tree map -/
def nct (e : va_E) : Prop := match e with
  | .inl _ => True
  | .inr q => q.1 ≠ 13 ∧ q.1 ≠ 16
def TF (X : tl_X) (σ σ' : tl_H) : Prop := tl_fix X σ' ∧ ∀ b e, σ b = some e → nct e → σ' b = some e
theorem nct_ne {σ : tl_H} {a b ci : Nat} {fs : List Value} {e : va_E} (hb : σ b = some e) (hn : nct e) (ha : σ a = some (oO ci fs)) (hc : ci = 13 ∨ ci = 16) : b ≠ a := by
  intro z
  subst z
  rw [ha] at hb
  cases hb
  have := hn
  rcases hc with rfl | rfl
  · exact this.1 rfl
  · exact this.2 rfl
theorem nct_Z (i : Int) : nct (cZ i) := ⟨by show (15 : Nat) ≠ 13; decide, by show (15 : Nat) ≠ 16; decide⟩
/-- the tree map at T: its keys' entries lie at ad, their Integers at kr; co the colours -/
def TM (X : tl_X) (σ : tl_H) (T : Nat) (n md : Int) (ks : Option Nat) (S : Int → Prop) (rt : Option Int) (lf rg pa : Int → Option Int) (co : Int → Int) (ad kr : Int → Nat) : Prop :=
  σ T = some (cT (rt.map ad) n md ks) ∧ (∀ k, S k → σ (ad k) = some (cE (kr k) (X.2.2.2 1) ((lf k).map ad) ((rg k).map ad) ((pa k).map ad) (co k)) ∧ σ (kr k) = some (cZ k) ∧ (co k = 0 ∨ co k = 1)) ∧ ∀ j k, S j → S k → ad j = ad k → j = k
/-- who is touched by a rotation -/
theorem rl_at {N : Int} {S : Int → Prop} {rt : Option Int} {lf rg pa : Int → Option Int} {lo hi : Int → Int} (h : BT N S rt lf rg pa lo hi) {x y : Int} (hx : S x) (hy : rg x = some y) (z : Int) (hz : S z) :
    (z = x ∧ rlL lf x y z = lf x ∧ rlR lf rg x y z = lf y ∧ rlP lf pa x y z = some y) ∨ (z = y ∧ rlL lf x y z = some x ∧ rlR lf rg x y z = rg y ∧ rlP lf pa x y z = pa x) ∨
    (lf y = some z ∧ rlL lf x y z = lf z ∧ rlR lf rg x y z = rg z ∧ rlP lf pa x y z = some x) ∨ (pa x = some z ∧ lf z = some x ∧ rlL lf x y z = some y ∧ rlR lf rg x y z = rg z ∧ rlP lf pa x y z = pa z) ∨
    (pa x = some z ∧ rg z = some x ∧ lf z ≠ some x ∧ rlL lf x y z = lf z ∧ rlR lf rg x y z = some y ∧ rlP lf pa x y z = pa z) ∨ (z ≠ x ∧ z ≠ y ∧ lf y ≠ some z ∧ pa x ≠ some z ∧ rlL lf x y z = lf z ∧ rlR lf rg x y z = rg z ∧ rlP lf pa x y z = pa z) := by
  obtain ⟨h1, h2, h3, h4, h5, h6, h7, h8⟩ := h
  obtain ⟨sy, py, ly, hiy⟩ := (h5 x hx).1 y hy
  have x1 := h1 x hx
  have y1 := h1 y sy
  have z1 := h1 z hz
  have x6 := h6 x hx
  have z4 := h4 z hz
  have z5 := h5 z hz
  have y4 := h4 y sy
  have y5 := h5 y sy
  have x4 := h4 x hx
  have x5 := h5 x hx
  clear h2 h3 h4 h5 h6 h7 h8
  unfold rlL rlR rlP
  grind (splits := 40)
theorem rr_at {N : Int} {S : Int → Prop} {rt : Option Int} {lf rg pa : Int → Option Int} {lo hi : Int → Int} (h : BT N S rt lf rg pa lo hi) {x y : Int} (hx : S x) (hy : lf x = some y) (z : Int) (hz : S z) :
    (z = x ∧ rlL rg x y z = rg x ∧ rlR rg lf x y z = rg y ∧ rlP rg pa x y z = some y) ∨ (z = y ∧ rlL rg x y z = some x ∧ rlR rg lf x y z = lf y ∧ rlP rg pa x y z = pa x) ∨
    (rg y = some z ∧ rlL rg x y z = rg z ∧ rlR rg lf x y z = lf z ∧ rlP rg pa x y z = some x) ∨ (pa x = some z ∧ rg z = some x ∧ rlL rg x y z = some y ∧ rlR rg lf x y z = lf z ∧ rlP rg pa x y z = pa z) ∨
    (pa x = some z ∧ lf z = some x ∧ rg z ≠ some x ∧ rlL rg x y z = rg z ∧ rlR rg lf x y z = some y ∧ rlP rg pa x y z = pa z) ∨ (z ≠ x ∧ z ≠ y ∧ rg y ≠ some z ∧ pa x ≠ some z ∧ rlL rg x y z = rg z ∧ rlR rg lf x y z = lf z ∧ rlP rg pa x y z = pa z) := by
  obtain ⟨h1, h2, h3, h4, h5, h6, h7, h8⟩ := h
  obtain ⟨sy, py, ly, hiy⟩ := (h4 x hx).1 y hy
  have x1 := h1 x hx
  have y1 := h1 y sy
  have z1 := h1 z hz
  have x6 := h6 x hx
  have z4 := h4 z hz
  have z5 := h5 z hz
  have y4 := h4 y sy
  have y5 := h5 y sy
  have x4 := h4 x hx
  have x5 := h5 x hx
  clear h2 h3 h4 h5 h6 h7 h8
  unfold rlL rlR rlP
  grind (splits := 40)
theorem gp_J21_114_16 {p : Program} {l : Launch} {e : Env} {R : Room} {s : State} {m : MethodId} {args : Array Value} {below : List Frame} {meth : Method} {c : Code} {H : Heap} {locs : List Loc} {cells slots : Nat} {Q : State → Prop} {cc : ByteArray} {pc : Nat} {ls : Array Slot} {rest : List Value} {X : tl_X} {σ : tl_H} {a : Nat} {fs : List Value} {v : Value} (C : tl_C X p s m args c cc RJ21) (hS : tl_S X s σ H locs) (he : σ a = some (oO 16 fs)) (hn : narrow (tyJ30 3) v = v) (hfit : fits (tyJ30 3) v = true) (hl : 3 < fs.length) (hdg : decode cc pc = .ok (.putfield 114, 3)) (kk : ∀ (H1 : Heap) (locs1 : List Loc), tl_S X s (va_up σ a (some (oO 16 (fs.set 3 v)))) H1 locs1 → W p l e R s m args below meth c H1 locs1 cells slots Q (F0 m (pc + 3) ls rest)) : W p l e R s m args below meth c H locs cells slots Q (F0 m pc ls (v :: .ref a :: rest)) :=
  h_put (ref := "java/util/TreeMap$Entry") C hS in_J30 tyJ30 tyJ30_ok nmJ30 rfl 3 (by decide) q746 (fun _ h => h) rfl (by decide) he hn hfit hl hdg kk
theorem gp_J21_124_16 {p : Program} {l : Launch} {e : Env} {R : Room} {s : State} {m : MethodId} {args : Array Value} {below : List Frame} {meth : Method} {c : Code} {H : Heap} {locs : List Loc} {cells slots : Nat} {Q : State → Prop} {cc : ByteArray} {pc : Nat} {ls : Array Slot} {rest : List Value} {X : tl_X} {σ : tl_H} {a : Nat} {fs : List Value} {v : Value} (C : tl_C X p s m args c cc RJ21) (hS : tl_S X s σ H locs) (he : σ a = some (oO 16 fs)) (hn : narrow (tyJ30 4) v = v) (hfit : fits (tyJ30 4) v = true) (hl : 4 < fs.length) (hdg : decode cc pc = .ok (.putfield 124, 3)) (kk : ∀ (H1 : Heap) (locs1 : List Loc), tl_S X s (va_up σ a (some (oO 16 (fs.set 4 v)))) H1 locs1 → W p l e R s m args below meth c H1 locs1 cells slots Q (F0 m (pc + 3) ls rest)) : W p l e R s m args below meth c H locs cells slots Q (F0 m pc ls (v :: .ref a :: rest)) :=
  h_put (ref := "java/util/TreeMap$Entry") C hS in_J30 tyJ30 tyJ30_ok nmJ30 rfl 4 (by decide) q748 (fun _ h => h) rfl (by decide) he hn hfit hl hdg kk
theorem gp_J21_101_13 {p : Program} {l : Launch} {e : Env} {R : Room} {s : State} {m : MethodId} {args : Array Value} {below : List Frame} {meth : Method} {c : Code} {H : Heap} {locs : List Loc} {cells slots : Nat} {Q : State → Prop} {cc : ByteArray} {pc : Nat} {ls : Array Slot} {rest : List Value} {X : tl_X} {σ : tl_H} {a : Nat} {fs : List Value} {v : Value} (C : tl_C X p s m args c cc RJ21) (hS : tl_S X s σ H locs) (he : σ a = some (oO 13 fs)) (hn : narrow (tyJ21 3) v = v) (hfit : fits (tyJ21 3) v = true) (hl : 3 < fs.length) (hdg : decode cc pc = .ok (.putfield 101, 3)) (kk : ∀ (H1 : Heap) (locs1 : List Loc), tl_S X s (va_up σ a (some (oO 13 (fs.set 3 v)))) H1 locs1 → W p l e R s m args below meth c H1 locs1 cells slots Q (F0 m (pc + 3) ls rest)) : W p l e R s m args below meth c H locs cells slots Q (F0 m pc ls (v :: .ref a :: rest)) :=
  h_put (ref := "java/util/TreeMap") C hS in_J21 tyJ21 tyJ21_ok nmJ21 rfl 3 (by decide) q419 (fun _ h => h) rfl (by decide) he hn hfit hl hdg kk
theorem gp_J21_111_16 {p : Program} {l : Launch} {e : Env} {R : Room} {s : State} {m : MethodId} {args : Array Value} {below : List Frame} {meth : Method} {c : Code} {H : Heap} {locs : List Loc} {cells slots : Nat} {Q : State → Prop} {cc : ByteArray} {pc : Nat} {ls : Array Slot} {rest : List Value} {X : tl_X} {σ : tl_H} {a : Nat} {fs : List Value} {v : Value} (C : tl_C X p s m args c cc RJ21) (hS : tl_S X s σ H locs) (he : σ a = some (oO 16 fs)) (hn : narrow (tyJ30 2) v = v) (hfit : fits (tyJ30 2) v = true) (hl : 2 < fs.length) (hdg : decode cc pc = .ok (.putfield 111, 3)) (kk : ∀ (H1 : Heap) (locs1 : List Loc), tl_S X s (va_up σ a (some (oO 16 (fs.set 2 v)))) H1 locs1 → W p l e R s m args below meth c H1 locs1 cells slots Q (F0 m (pc + 3) ls rest)) : W p l e R s m args below meth c H locs cells slots Q (F0 m pc ls (v :: .ref a :: rest)) :=
  h_put (ref := "java/util/TreeMap$Entry") C hS in_J30 tyJ30 tyJ30_ok nmJ30 rfl 2 (by decide) q745 (fun _ h => h) rfl (by decide) he hn hfit hl hdg kk
set_option maxHeartbeats 4000000 in
theorem m_rotL00 (l : Launch) (X : tl_X) (σ : tl_H) (T : Nat) (n md : Int) (ks : Option Nat) (N : Int) (S : Int → Prop) (rt : Option Int) (lf rg pa : Int → Option Int) (lo hi co : Int → Int) (ad kr : Int → Nat) (hT : TM X σ T n md ks S rt lf rg pa co ad kr) (hB : BT N S rt lf rg pa lo hi) (x y : Int) (hx : S x) (hy : rg x = some y) (hm : lf y = none) (hp : pa x = none) : tl_Met l X yJ21_rotateLeft cJ21_rotateLeft 3 ((Option.none : Option FieldType)) 1 (0) (0) [.ref (T), .ref (ad x)] σ (tl_Qv X (fun σ' => TM X σ' T n md ks S (rlT rt x y) (rlL lf x y) (rlR lf rg x y) (rlP lf pa x y) co ad kr ∧ TF X σ σ')) := by
  obtain ⟨hT0, hE, hI⟩ := hT
  obtain ⟨sy, py, ey1, ey2⟩ := (hB.2.2.2.2.1 x hx).1 y hy
  have bx := hB.1 x hx
  have by_ := hB.1 y sy
  have hxy : x ≠ y := by omega
  have nxy : ad x ≠ ad y := fun z => hxy (hI _ _ hx sy z)
  have hrt : rt = some x := (hB.2.2.2.2.2.1 x hx).2 hp
  have fT : σ (T) = some (oO 13 [.null, .null, .null, .ref (ad x), .int (iI (n)), .int (iI (md)), .null, va_rf (ks), .null]) := by rw [hT0, hrt]; rfl
  have fx : σ (ad x) = some (oO 16 [.ref (kr x), .ref (X.2.2.2 1), va_rf ((lf x).map ad), .ref (ad y), .null, .int (iI (co x))]) := by rw [(hE x hx).1, hy, hp]; rfl
  have fy : σ (ad y) = some (oO 16 [.ref (kr y), .ref (X.2.2.2 1), .null, va_rf ((rg y).map ad), .ref (ad x), .int (iI (co y))]) := by rw [(hE y sy).1, hm, py]; rfl
  refine tl_start (by decide) (Nat.le_of_ble_eq_true rfl) (fun p e s m below meth c ls C hr hml hlk hnm hS hl => ?_)
  have hl : lv_has ls 3 [(0, .ref (T)), (1, .ref (ad x))] := hl
  refine lv_aload_n C.1 C.2.1 dJ21_rotateLeft_0 rfl (lv_at hl 1 rfl) ?_
  refine lv_ifnull C.1 C.2.1 dJ21_rotateLeft_1 ?_
  refine lv_aload_n C.1 C.2.1 dJ21_rotateLeft_4 rfl (lv_at hl 1 rfl) ?_
  refine gf_J21_114_16 C hS fx rfl dJ21_rotateLeft_5 ?_
  refine lv_astore_n (lv' := [(2, .ref (ad y)), (0, .ref (T)), (1, .ref (ad x))]) C.1 C.2.1 dJ21_rotateLeft_8 rfl hl (by decide) rfl (fun ls hl => ?_)
  refine lv_aload_n C.1 C.2.1 dJ21_rotateLeft_9 rfl (lv_at hl 2 rfl) ?_
  refine lv_aload_n C.1 C.2.1 dJ21_rotateLeft_10 rfl (lv_at hl 0 rfl) ?_
  refine gf_J21_111_16 C hS fy rfl dJ21_rotateLeft_11 ?_
  refine gp_J21_114_16 C hS fx rfl rfl (Nat.le_of_ble_eq_true rfl) dJ21_rotateLeft_14 (fun H locs hS => ?_)
  obtain ⟨σ_1, eσ_1⟩ : ∃ z, z = va_up σ (ad x) (some (oO 16 [.ref (kr x), .ref (X.2.2.2 1), va_rf ((lf x).map ad), .null, .null, .int (iI (co x))])) := ⟨_, rfl⟩
  have hS : tl_S X s σ_1 H locs := by rw [eσ_1]; exact hS
  have he_2 := up_kp eσ_1 (tl_ne fT fx (by decide)) fT
  have he_3 : σ_1 (ad x) = some (oO 16 [.ref (kr x), .ref (X.2.2.2 1), va_rf ((lf x).map ad), .null, .null, .int (iI (co x))]) := by rw [eσ_1]; exact up_s
  have he_4 := up_kp eσ_1 (Ne.symm nxy) fy
  refine lv_aload_n C.1 C.2.1 dJ21_rotateLeft_17 rfl (lv_at hl 0 rfl) ?_
  refine gf_J21_111_16 C hS he_4 rfl dJ21_rotateLeft_18 ?_
  refine lv_ifnullN (tgt := 32) C.1 C.2.1 dJ21_rotateLeft_21 (by decide) ?_
  refine lv_aload_n C.1 C.2.1 dJ21_rotateLeft_32 rfl (lv_at hl 0 rfl) ?_
  refine lv_aload_n C.1 C.2.1 dJ21_rotateLeft_33 rfl (lv_at hl 2 rfl) ?_
  refine gf_J21_124_16 C hS he_3 rfl dJ21_rotateLeft_34 ?_
  refine gp_J21_124_16 C hS he_4 rfl rfl (Nat.le_of_ble_eq_true rfl) dJ21_rotateLeft_37 (fun H locs hS => ?_)
  obtain ⟨σ_5, eσ_5⟩ : ∃ z, z = va_up σ_1 (ad y) (some (oO 16 [.ref (kr y), .ref (X.2.2.2 1), .null, va_rf ((rg y).map ad), .null, .int (iI (co y))])) := ⟨_, rfl⟩
  have hS : tl_S X s σ_5 H locs := by rw [eσ_5]; exact hS
  have he_6 := up_kp eσ_5 (tl_ne he_2 he_4 (by decide)) he_2
  have he_7 := up_kp eσ_5 nxy he_3
  have he_8 : σ_5 (ad y) = some (oO 16 [.ref (kr y), .ref (X.2.2.2 1), .null, va_rf ((rg y).map ad), .null, .int (iI (co y))]) := by rw [eσ_5]; exact up_s
  refine lv_aload_n C.1 C.2.1 dJ21_rotateLeft_40 rfl (lv_at hl 2 rfl) ?_
  refine gf_J21_124_16 C hS he_7 rfl dJ21_rotateLeft_41 ?_
  refine lv_ifnonnullN C.1 C.2.1 dJ21_rotateLeft_44 ?_
  refine lv_aload_n C.1 C.2.1 dJ21_rotateLeft_47 rfl (lv_at hl 1 rfl) ?_
  refine lv_aload_n C.1 C.2.1 dJ21_rotateLeft_48 rfl (lv_at hl 0 rfl) ?_
  refine gp_J21_101_13 C hS he_6 rfl rfl (Nat.le_of_ble_eq_true rfl) dJ21_rotateLeft_49 (fun H locs hS => ?_)
  obtain ⟨σ_9, eσ_9⟩ : ∃ z, z = va_up σ_5 (T) (some (oO 13 [.null, .null, .null, .ref (ad y), .int (iI (n)), .int (iI (md)), .null, va_rf (ks), .null])) := ⟨_, rfl⟩
  have hS : tl_S X s σ_9 H locs := by rw [eσ_9]; exact hS
  have he_10 : σ_9 (T) = some (oO 13 [.null, .null, .null, .ref (ad y), .int (iI (n)), .int (iI (md)), .null, va_rf (ks), .null]) := by rw [eσ_9]; exact up_s
  have he_11 := up_kp eσ_9 (tl_ne he_7 he_6 (by decide)) he_7
  have he_12 := up_kp eσ_9 (tl_ne he_8 he_6 (by decide)) he_8
  refine lv_goto (tgt := 85) C.1 C.2.1 dJ21_rotateLeft_52 (by decide) ?_
  refine lv_aload_n C.1 C.2.1 dJ21_rotateLeft_85 rfl (lv_at hl 0 rfl) ?_
  refine lv_aload_n C.1 C.2.1 dJ21_rotateLeft_86 rfl (lv_at hl 2 rfl) ?_
  refine gp_J21_111_16 C hS he_12 rfl rfl (Nat.le_of_ble_eq_true rfl) dJ21_rotateLeft_87 (fun H locs hS => ?_)
  obtain ⟨σ_13, eσ_13⟩ : ∃ z, z = va_up σ_9 (ad y) (some (oO 16 [.ref (kr y), .ref (X.2.2.2 1), .ref (ad x), va_rf ((rg y).map ad), .null, .int (iI (co y))])) := ⟨_, rfl⟩
  have hS : tl_S X s σ_13 H locs := by rw [eσ_13]; exact hS
  have he_14 := up_kp eσ_13 (tl_ne he_10 he_12 (by decide)) he_10
  have he_15 := up_kp eσ_13 nxy he_11
  have he_16 : σ_13 (ad y) = some (oO 16 [.ref (kr y), .ref (X.2.2.2 1), .ref (ad x), va_rf ((rg y).map ad), .null, .int (iI (co y))]) := by rw [eσ_13]; exact up_s
  refine lv_aload_n C.1 C.2.1 dJ21_rotateLeft_90 rfl (lv_at hl 2 rfl) ?_
  refine lv_aload_n C.1 C.2.1 dJ21_rotateLeft_91 rfl (lv_at hl 0 rfl) ?_
  refine gp_J21_124_16 C hS he_15 rfl rfl (Nat.le_of_ble_eq_true rfl) dJ21_rotateLeft_92 (fun H locs hS => ?_)
  obtain ⟨σ_17, eσ_17⟩ : ∃ z, z = va_up σ_13 (ad x) (some (oO 16 [.ref (kr x), .ref (X.2.2.2 1), va_rf ((lf x).map ad), .null, .ref (ad y), .int (iI (co x))])) := ⟨_, rfl⟩
  have hS : tl_S X s σ_17 H locs := by rw [eσ_17]; exact hS
  have he_18 := up_kp eσ_17 (tl_ne he_14 he_15 (by decide)) he_14
  have he_19 : σ_17 (ad x) = some (oO 16 [.ref (kr x), .ref (X.2.2.2 1), va_rf ((lf x).map ad), .null, .ref (ad y), .int (iI (co x))]) := by rw [eσ_17]; exact up_s
  have he_20 := up_kp eσ_17 (Ne.symm nxy) he_16
  have hEnd : ∀ z, S z → σ_17 (ad z) = some (cE (kr z) (X.2.2.2 1) (((rlL lf x y) z).map ad) (((rlR lf rg x y) z).map ad) (((rlP lf pa x y) z).map ad) (co z)) := by
    intro z hz
    rcases rl_at hB hx hy z hz with ⟨rfl, w1, w2, w3⟩ | ⟨rfl, w1, w2, w3⟩ | ⟨w0, w1, w2, w3⟩ | ⟨w0, w4, w1, w2, w3⟩ | ⟨w0, w4, w5, w1, w2, w3⟩ | ⟨w4, w5, w6, w0, w1, w2, w3⟩
    · rw [w1, w2, w3, hm]; exact he_19
    · rw [w1, w2, w3, hp]; exact he_20
    · rw [hm] at w0; cases w0
    · rw [hp] at w0; cases w0
    · rw [hp] at w0; cases w0
    · (have gT : ad z ≠ T := tl_ne (hE z hz).1 fT (by decide)); (have gx : ad z ≠ ad x := fun u => w4 (hI _ _ hz hx u)); (have gy : ad z ≠ ad y := fun u => w5 (hI _ _ hz sy u)); rw [w1, w2, w3, eσ_17, up_n gx, eσ_13, up_n gy, eσ_9, up_n gT, eσ_5, up_n gy, eσ_1, up_n gx]; exact (hE z hz).1
  have hFr : ∀ b e, σ b = some e → nct e → σ_17 b = some e := by
    intro b e hb hn
    have gT : b ≠ T := nct_ne hb hn fT (Or.inl rfl)
    have gx : b ≠ ad x := nct_ne hb hn fx (Or.inr rfl)
    have gy : b ≠ ad y := nct_ne hb hn fy (Or.inr rfl)
    rw [eσ_17, up_n gx, eσ_13, up_n gy, eσ_9, up_n gT, eσ_5, up_n gy, eσ_1, up_n gx]; exact hb
  exact r_v C hr hlk hS ⟨⟨by unfold rlT; rw [if_pos hrt]; exact he_18, fun z hz => ⟨hEnd z hz, hFr _ _ (hE z hz).2.1 (nct_Z z), (hE z hz).2.2⟩, hI⟩, hS.fix, hFr⟩ dJ21_rotateLeft_95

set_option maxHeartbeats 4000000 in
theorem m_rotL01 (l : Launch) (X : tl_X) (σ : tl_H) (T : Nat) (n md : Int) (ks : Option Nat) (N : Int) (S : Int → Prop) (rt : Option Int) (lf rg pa : Int → Option Int) (lo hi co : Int → Int) (ad kr : Int → Nat) (hT : TM X σ T n md ks S rt lf rg pa co ad kr) (hB : BT N S rt lf rg pa lo hi) (x y : Int) (hx : S x) (hy : rg x = some y) (hm : lf y = none) (q : Int) (hp : pa x = some q) (hq : lf q = some x) : tl_Met l X yJ21_rotateLeft cJ21_rotateLeft 3 ((Option.none : Option FieldType)) 1 (0) (0) [.ref (T), .ref (ad x)] σ (tl_Qv X (fun σ' => TM X σ' T n md ks S (rlT rt x y) (rlL lf x y) (rlR lf rg x y) (rlP lf pa x y) co ad kr ∧ TF X σ σ')) := by
  obtain ⟨hT0, hE, hI⟩ := hT
  obtain ⟨sy, py, ey1, ey2⟩ := (hB.2.2.2.2.1 x hx).1 y hy
  have bx := hB.1 x hx
  have by_ := hB.1 y sy
  have hxy : x ≠ y := by omega
  have nxy : ad x ≠ ad y := fun z => hxy (hI _ _ hx sy z)
  have sq := ((hB.2.2.2.2.2.1 x hx).1 q hp).1
  obtain ⟨-, -, eq1, eq2⟩ := (hB.2.2.2.1 q sq).1 x hq
  have bq := hB.1 q sq
  have nqx : ad q ≠ ad x := fun z => by have := hI _ _ sq hx z; omega
  have nqy : ad q ≠ ad y := fun z => by have := hI _ _ sq sy z; omega
  have hrt : rt ≠ some x := fun z => by have := (hB.2.2.2.2.2.2.1 x z).2.1; rw [hp] at this; cases this
  have fT : σ (T) = some (oO 13 [.null, .null, .null, va_rf (rt.map ad), .int (iI (n)), .int (iI (md)), .null, va_rf (ks), .null]) := by exact hT0
  have fx : σ (ad x) = some (oO 16 [.ref (kr x), .ref (X.2.2.2 1), va_rf ((lf x).map ad), .ref (ad y), .ref (ad q), .int (iI (co x))]) := by rw [(hE x hx).1, hy, hp]; rfl
  have fy : σ (ad y) = some (oO 16 [.ref (kr y), .ref (X.2.2.2 1), .null, va_rf ((rg y).map ad), .ref (ad x), .int (iI (co y))]) := by rw [(hE y sy).1, hm, py]; rfl
  have fq : σ (ad q) = some (oO 16 [.ref (kr q), .ref (X.2.2.2 1), .ref (ad x), va_rf ((rg q).map ad), va_rf ((pa q).map ad), .int (iI (co q))]) := by rw [(hE q sq).1, hq]; rfl
  refine tl_start (by decide) (Nat.le_of_ble_eq_true rfl) (fun p e s m below meth c ls C hr hml hlk hnm hS hl => ?_)
  have hl : lv_has ls 3 [(0, .ref (T)), (1, .ref (ad x))] := hl
  refine lv_aload_n C.1 C.2.1 dJ21_rotateLeft_0 rfl (lv_at hl 1 rfl) ?_
  refine lv_ifnull C.1 C.2.1 dJ21_rotateLeft_1 ?_
  refine lv_aload_n C.1 C.2.1 dJ21_rotateLeft_4 rfl (lv_at hl 1 rfl) ?_
  refine gf_J21_114_16 C hS fx rfl dJ21_rotateLeft_5 ?_
  refine lv_astore_n (lv' := [(2, .ref (ad y)), (0, .ref (T)), (1, .ref (ad x))]) C.1 C.2.1 dJ21_rotateLeft_8 rfl hl (by decide) rfl (fun ls hl => ?_)
  refine lv_aload_n C.1 C.2.1 dJ21_rotateLeft_9 rfl (lv_at hl 2 rfl) ?_
  refine lv_aload_n C.1 C.2.1 dJ21_rotateLeft_10 rfl (lv_at hl 0 rfl) ?_
  refine gf_J21_111_16 C hS fy rfl dJ21_rotateLeft_11 ?_
  refine gp_J21_114_16 C hS fx rfl rfl (Nat.le_of_ble_eq_true rfl) dJ21_rotateLeft_14 (fun H locs hS => ?_)
  obtain ⟨σ_1, eσ_1⟩ : ∃ z, z = va_up σ (ad x) (some (oO 16 [.ref (kr x), .ref (X.2.2.2 1), va_rf ((lf x).map ad), .null, .ref (ad q), .int (iI (co x))])) := ⟨_, rfl⟩
  have hS : tl_S X s σ_1 H locs := by rw [eσ_1]; exact hS
  have he_2 := up_kp eσ_1 (tl_ne fT fx (by decide)) fT
  have he_3 : σ_1 (ad x) = some (oO 16 [.ref (kr x), .ref (X.2.2.2 1), va_rf ((lf x).map ad), .null, .ref (ad q), .int (iI (co x))]) := by rw [eσ_1]; exact up_s
  have he_4 := up_kp eσ_1 (Ne.symm nxy) fy
  have he_5 := up_kp eσ_1 nqx fq
  refine lv_aload_n C.1 C.2.1 dJ21_rotateLeft_17 rfl (lv_at hl 0 rfl) ?_
  refine gf_J21_111_16 C hS he_4 rfl dJ21_rotateLeft_18 ?_
  refine lv_ifnullN (tgt := 32) C.1 C.2.1 dJ21_rotateLeft_21 (by decide) ?_
  refine lv_aload_n C.1 C.2.1 dJ21_rotateLeft_32 rfl (lv_at hl 0 rfl) ?_
  refine lv_aload_n C.1 C.2.1 dJ21_rotateLeft_33 rfl (lv_at hl 2 rfl) ?_
  refine gf_J21_124_16 C hS he_3 rfl dJ21_rotateLeft_34 ?_
  refine gp_J21_124_16 C hS he_4 rfl rfl (Nat.le_of_ble_eq_true rfl) dJ21_rotateLeft_37 (fun H locs hS => ?_)
  obtain ⟨σ_6, eσ_6⟩ : ∃ z, z = va_up σ_1 (ad y) (some (oO 16 [.ref (kr y), .ref (X.2.2.2 1), .null, va_rf ((rg y).map ad), .ref (ad q), .int (iI (co y))])) := ⟨_, rfl⟩
  have hS : tl_S X s σ_6 H locs := by rw [eσ_6]; exact hS
  have he_7 := up_kp eσ_6 (tl_ne he_2 he_4 (by decide)) he_2
  have he_8 := up_kp eσ_6 nxy he_3
  have he_9 : σ_6 (ad y) = some (oO 16 [.ref (kr y), .ref (X.2.2.2 1), .null, va_rf ((rg y).map ad), .ref (ad q), .int (iI (co y))]) := by rw [eσ_6]; exact up_s
  have he_10 := up_kp eσ_6 nqy he_5
  refine lv_aload_n C.1 C.2.1 dJ21_rotateLeft_40 rfl (lv_at hl 2 rfl) ?_
  refine gf_J21_124_16 C hS he_8 rfl dJ21_rotateLeft_41 ?_
  refine lv_ifnonnull (tgt := 55) C.1 C.2.1 dJ21_rotateLeft_44 (by decide) ?_
  refine lv_aload_n C.1 C.2.1 dJ21_rotateLeft_55 rfl (lv_at hl 2 rfl) ?_
  refine gf_J21_124_16 C hS he_8 rfl dJ21_rotateLeft_56 ?_
  refine gf_J21_111_16 C hS he_10 rfl dJ21_rotateLeft_59 ?_
  refine lv_aload_n C.1 C.2.1 dJ21_rotateLeft_62 rfl (lv_at hl 2 rfl) ?_
  refine lv_acmp_ne (tgt := 77) (rx := (some (ad x))) (ry := (some (ad x))) C.1 C.2.1 dJ21_rotateLeft_63 (by decide) (fun hc_11 => ?_) (fun hc_11 => ?_)
  · skip
    exact absurd rfl hc_11
  · skip
    refine lv_aload_n C.1 C.2.1 dJ21_rotateLeft_66 rfl (lv_at hl 2 rfl) ?_
    refine gf_J21_124_16 C hS he_8 rfl dJ21_rotateLeft_67 ?_
    refine lv_aload_n C.1 C.2.1 dJ21_rotateLeft_70 rfl (lv_at hl 0 rfl) ?_
    refine gp_J21_111_16 C hS he_10 rfl rfl (Nat.le_of_ble_eq_true rfl) dJ21_rotateLeft_71 (fun H locs hS => ?_)
    obtain ⟨σ_12, eσ_12⟩ : ∃ z, z = va_up σ_6 (ad q) (some (oO 16 [.ref (kr q), .ref (X.2.2.2 1), .ref (ad y), va_rf ((rg q).map ad), va_rf ((pa q).map ad), .int (iI (co q))])) := ⟨_, rfl⟩
    have hS : tl_S X s σ_12 H locs := by rw [eσ_12]; exact hS
    have he_13 := up_kp eσ_12 (tl_ne he_7 he_10 (by decide)) he_7
    have he_14 := up_kp eσ_12 (Ne.symm nqx) he_8
    have he_15 := up_kp eσ_12 (Ne.symm nqy) he_9
    have he_16 : σ_12 (ad q) = some (oO 16 [.ref (kr q), .ref (X.2.2.2 1), .ref (ad y), va_rf ((rg q).map ad), va_rf ((pa q).map ad), .int (iI (co q))]) := by rw [eσ_12]; exact up_s
    refine lv_goto (tgt := 85) C.1 C.2.1 dJ21_rotateLeft_74 (by decide) ?_
    refine lv_aload_n C.1 C.2.1 dJ21_rotateLeft_85 rfl (lv_at hl 0 rfl) ?_
    refine lv_aload_n C.1 C.2.1 dJ21_rotateLeft_86 rfl (lv_at hl 2 rfl) ?_
    refine gp_J21_111_16 C hS he_15 rfl rfl (Nat.le_of_ble_eq_true rfl) dJ21_rotateLeft_87 (fun H locs hS => ?_)
    obtain ⟨σ_17, eσ_17⟩ : ∃ z, z = va_up σ_12 (ad y) (some (oO 16 [.ref (kr y), .ref (X.2.2.2 1), .ref (ad x), va_rf ((rg y).map ad), .ref (ad q), .int (iI (co y))])) := ⟨_, rfl⟩
    have hS : tl_S X s σ_17 H locs := by rw [eσ_17]; exact hS
    have he_18 := up_kp eσ_17 (tl_ne he_13 he_15 (by decide)) he_13
    have he_19 := up_kp eσ_17 nxy he_14
    have he_20 : σ_17 (ad y) = some (oO 16 [.ref (kr y), .ref (X.2.2.2 1), .ref (ad x), va_rf ((rg y).map ad), .ref (ad q), .int (iI (co y))]) := by rw [eσ_17]; exact up_s
    have he_21 := up_kp eσ_17 nqy he_16
    refine lv_aload_n C.1 C.2.1 dJ21_rotateLeft_90 rfl (lv_at hl 2 rfl) ?_
    refine lv_aload_n C.1 C.2.1 dJ21_rotateLeft_91 rfl (lv_at hl 0 rfl) ?_
    refine gp_J21_124_16 C hS he_19 rfl rfl (Nat.le_of_ble_eq_true rfl) dJ21_rotateLeft_92 (fun H locs hS => ?_)
    obtain ⟨σ_22, eσ_22⟩ : ∃ z, z = va_up σ_17 (ad x) (some (oO 16 [.ref (kr x), .ref (X.2.2.2 1), va_rf ((lf x).map ad), .null, .ref (ad y), .int (iI (co x))])) := ⟨_, rfl⟩
    have hS : tl_S X s σ_22 H locs := by rw [eσ_22]; exact hS
    have he_23 := up_kp eσ_22 (tl_ne he_18 he_19 (by decide)) he_18
    have he_24 : σ_22 (ad x) = some (oO 16 [.ref (kr x), .ref (X.2.2.2 1), va_rf ((lf x).map ad), .null, .ref (ad y), .int (iI (co x))]) := by rw [eσ_22]; exact up_s
    have he_25 := up_kp eσ_22 (Ne.symm nxy) he_20
    have he_26 := up_kp eσ_22 nqx he_21
    have hEnd : ∀ z, S z → σ_22 (ad z) = some (cE (kr z) (X.2.2.2 1) (((rlL lf x y) z).map ad) (((rlR lf rg x y) z).map ad) (((rlP lf pa x y) z).map ad) (co z)) := by
      intro z hz
      rcases rl_at hB hx hy z hz with ⟨rfl, w1, w2, w3⟩ | ⟨rfl, w1, w2, w3⟩ | ⟨w0, w1, w2, w3⟩ | ⟨w0, w4, w1, w2, w3⟩ | ⟨w0, w4, w5, w1, w2, w3⟩ | ⟨w4, w5, w6, w0, w1, w2, w3⟩
      · rw [w1, w2, w3, hm]; exact he_24
      · rw [w1, w2, w3, hp]; exact he_25
      · rw [hm] at w0; cases w0
      · rw [hp] at w0; cases w0; rw [w1, w2, w3]; exact he_26
      · rw [hp] at w0; cases w0; exact absurd hq w5
      · (have gT : ad z ≠ T := tl_ne (hE z hz).1 fT (by decide)); (have gx : ad z ≠ ad x := fun u => w4 (hI _ _ hz hx u)); (have gy : ad z ≠ ad y := fun u => w5 (hI _ _ hz sy u)); (have gq : ad z ≠ ad q := fun u => w0 (by rw [hp, hI _ _ hz sq u])); rw [w1, w2, w3, eσ_22, up_n gx, eσ_17, up_n gy, eσ_12, up_n gq, eσ_6, up_n gy, eσ_1, up_n gx]; exact (hE z hz).1
    have hFr : ∀ b e, σ b = some e → nct e → σ_22 b = some e := by
      intro b e hb hn
      have gT : b ≠ T := nct_ne hb hn fT (Or.inl rfl)
      have gx : b ≠ ad x := nct_ne hb hn fx (Or.inr rfl)
      have gy : b ≠ ad y := nct_ne hb hn fy (Or.inr rfl)
      have gq : b ≠ ad q := nct_ne hb hn fq (Or.inr rfl)
      rw [eσ_22, up_n gx, eσ_17, up_n gy, eσ_12, up_n gq, eσ_6, up_n gy, eσ_1, up_n gx]; exact hb
    exact r_v C hr hlk hS ⟨⟨by unfold rlT; rw [if_neg hrt]; exact he_23, fun z hz => ⟨hEnd z hz, hFr _ _ (hE z hz).2.1 (nct_Z z), (hE z hz).2.2⟩, hI⟩, hS.fix, hFr⟩ dJ21_rotateLeft_95

set_option maxHeartbeats 4000000 in
theorem m_rotL02 (l : Launch) (X : tl_X) (σ : tl_H) (T : Nat) (n md : Int) (ks : Option Nat) (N : Int) (S : Int → Prop) (rt : Option Int) (lf rg pa : Int → Option Int) (lo hi co : Int → Int) (ad kr : Int → Nat) (hT : TM X σ T n md ks S rt lf rg pa co ad kr) (hB : BT N S rt lf rg pa lo hi) (x y : Int) (hx : S x) (hy : rg x = some y) (hm : lf y = none) (q : Int) (hp : pa x = some q) (hq : rg q = some x) : tl_Met l X yJ21_rotateLeft cJ21_rotateLeft 3 ((Option.none : Option FieldType)) 1 (0) (0) [.ref (T), .ref (ad x)] σ (tl_Qv X (fun σ' => TM X σ' T n md ks S (rlT rt x y) (rlL lf x y) (rlR lf rg x y) (rlP lf pa x y) co ad kr ∧ TF X σ σ')) := by
  obtain ⟨hT0, hE, hI⟩ := hT
  obtain ⟨sy, py, ey1, ey2⟩ := (hB.2.2.2.2.1 x hx).1 y hy
  have bx := hB.1 x hx
  have by_ := hB.1 y sy
  have hxy : x ≠ y := by omega
  have nxy : ad x ≠ ad y := fun z => hxy (hI _ _ hx sy z)
  have sq := ((hB.2.2.2.2.2.1 x hx).1 q hp).1
  obtain ⟨-, -, eq1, eq2⟩ := (hB.2.2.2.2.1 q sq).1 x hq
  have bq := hB.1 q sq
  have nqx : ad q ≠ ad x := fun z => by have := hI _ _ sq hx z; omega
  have nqy : ad q ≠ ad y := fun z => by have := hI _ _ sq sy z; omega
  have hrt : rt ≠ some x := fun z => by have := (hB.2.2.2.2.2.2.1 x z).2.1; rw [hp] at this; cases this
  have hqn : lf q ≠ some x := fun z => by obtain ⟨-, -, u1, u2⟩ := (hB.2.2.2.1 q sq).1 x z; omega
  have hqa : (lf q).map ad ≠ some (ad x) := fun z => by obtain ⟨u, u1, u2⟩ := Option.map_eq_some_iff.mp z; exact hqn (by rw [u1, hI _ _ ((hB.2.2.2.1 q sq).1 u u1).1 hx u2])
  have fT : σ (T) = some (oO 13 [.null, .null, .null, va_rf (rt.map ad), .int (iI (n)), .int (iI (md)), .null, va_rf (ks), .null]) := by exact hT0
  have fx : σ (ad x) = some (oO 16 [.ref (kr x), .ref (X.2.2.2 1), va_rf ((lf x).map ad), .ref (ad y), .ref (ad q), .int (iI (co x))]) := by rw [(hE x hx).1, hy, hp]; rfl
  have fy : σ (ad y) = some (oO 16 [.ref (kr y), .ref (X.2.2.2 1), .null, va_rf ((rg y).map ad), .ref (ad x), .int (iI (co y))]) := by rw [(hE y sy).1, hm, py]; rfl
  have fq : σ (ad q) = some (oO 16 [.ref (kr q), .ref (X.2.2.2 1), va_rf ((lf q).map ad), .ref (ad x), va_rf ((pa q).map ad), .int (iI (co q))]) := by rw [(hE q sq).1, hq]; rfl
  refine tl_start (by decide) (Nat.le_of_ble_eq_true rfl) (fun p e s m below meth c ls C hr hml hlk hnm hS hl => ?_)
  have hl : lv_has ls 3 [(0, .ref (T)), (1, .ref (ad x))] := hl
  refine lv_aload_n C.1 C.2.1 dJ21_rotateLeft_0 rfl (lv_at hl 1 rfl) ?_
  refine lv_ifnull C.1 C.2.1 dJ21_rotateLeft_1 ?_
  refine lv_aload_n C.1 C.2.1 dJ21_rotateLeft_4 rfl (lv_at hl 1 rfl) ?_
  refine gf_J21_114_16 C hS fx rfl dJ21_rotateLeft_5 ?_
  refine lv_astore_n (lv' := [(2, .ref (ad y)), (0, .ref (T)), (1, .ref (ad x))]) C.1 C.2.1 dJ21_rotateLeft_8 rfl hl (by decide) rfl (fun ls hl => ?_)
  refine lv_aload_n C.1 C.2.1 dJ21_rotateLeft_9 rfl (lv_at hl 2 rfl) ?_
  refine lv_aload_n C.1 C.2.1 dJ21_rotateLeft_10 rfl (lv_at hl 0 rfl) ?_
  refine gf_J21_111_16 C hS fy rfl dJ21_rotateLeft_11 ?_
  refine gp_J21_114_16 C hS fx rfl rfl (Nat.le_of_ble_eq_true rfl) dJ21_rotateLeft_14 (fun H locs hS => ?_)
  obtain ⟨σ_1, eσ_1⟩ : ∃ z, z = va_up σ (ad x) (some (oO 16 [.ref (kr x), .ref (X.2.2.2 1), va_rf ((lf x).map ad), .null, .ref (ad q), .int (iI (co x))])) := ⟨_, rfl⟩
  have hS : tl_S X s σ_1 H locs := by rw [eσ_1]; exact hS
  have he_2 := up_kp eσ_1 (tl_ne fT fx (by decide)) fT
  have he_3 : σ_1 (ad x) = some (oO 16 [.ref (kr x), .ref (X.2.2.2 1), va_rf ((lf x).map ad), .null, .ref (ad q), .int (iI (co x))]) := by rw [eσ_1]; exact up_s
  have he_4 := up_kp eσ_1 (Ne.symm nxy) fy
  have he_5 := up_kp eσ_1 nqx fq
  refine lv_aload_n C.1 C.2.1 dJ21_rotateLeft_17 rfl (lv_at hl 0 rfl) ?_
  refine gf_J21_111_16 C hS he_4 rfl dJ21_rotateLeft_18 ?_
  refine lv_ifnullN (tgt := 32) C.1 C.2.1 dJ21_rotateLeft_21 (by decide) ?_
  refine lv_aload_n C.1 C.2.1 dJ21_rotateLeft_32 rfl (lv_at hl 0 rfl) ?_
  refine lv_aload_n C.1 C.2.1 dJ21_rotateLeft_33 rfl (lv_at hl 2 rfl) ?_
  refine gf_J21_124_16 C hS he_3 rfl dJ21_rotateLeft_34 ?_
  refine gp_J21_124_16 C hS he_4 rfl rfl (Nat.le_of_ble_eq_true rfl) dJ21_rotateLeft_37 (fun H locs hS => ?_)
  obtain ⟨σ_6, eσ_6⟩ : ∃ z, z = va_up σ_1 (ad y) (some (oO 16 [.ref (kr y), .ref (X.2.2.2 1), .null, va_rf ((rg y).map ad), .ref (ad q), .int (iI (co y))])) := ⟨_, rfl⟩
  have hS : tl_S X s σ_6 H locs := by rw [eσ_6]; exact hS
  have he_7 := up_kp eσ_6 (tl_ne he_2 he_4 (by decide)) he_2
  have he_8 := up_kp eσ_6 nxy he_3
  have he_9 : σ_6 (ad y) = some (oO 16 [.ref (kr y), .ref (X.2.2.2 1), .null, va_rf ((rg y).map ad), .ref (ad q), .int (iI (co y))]) := by rw [eσ_6]; exact up_s
  have he_10 := up_kp eσ_6 nqy he_5
  refine lv_aload_n C.1 C.2.1 dJ21_rotateLeft_40 rfl (lv_at hl 2 rfl) ?_
  refine gf_J21_124_16 C hS he_8 rfl dJ21_rotateLeft_41 ?_
  refine lv_ifnonnull (tgt := 55) C.1 C.2.1 dJ21_rotateLeft_44 (by decide) ?_
  refine lv_aload_n C.1 C.2.1 dJ21_rotateLeft_55 rfl (lv_at hl 2 rfl) ?_
  refine gf_J21_124_16 C hS he_8 rfl dJ21_rotateLeft_56 ?_
  refine gf_J21_111_16 C hS he_10 rfl dJ21_rotateLeft_59 ?_
  refine lv_aload_n C.1 C.2.1 dJ21_rotateLeft_62 rfl (lv_at hl 2 rfl) ?_
  refine lv_acmp_ne (tgt := 77) (rx := ((lf q).map ad)) (ry := (some (ad x))) C.1 C.2.1 dJ21_rotateLeft_63 (by decide) (fun hc_11 => ?_) (fun hc_11 => ?_)
  · skip
    refine lv_aload_n C.1 C.2.1 dJ21_rotateLeft_77 rfl (lv_at hl 2 rfl) ?_
    refine gf_J21_124_16 C hS he_8 rfl dJ21_rotateLeft_78 ?_
    refine lv_aload_n C.1 C.2.1 dJ21_rotateLeft_81 rfl (lv_at hl 0 rfl) ?_
    refine gp_J21_114_16 C hS he_10 rfl rfl (Nat.le_of_ble_eq_true rfl) dJ21_rotateLeft_82 (fun H locs hS => ?_)
    obtain ⟨σ_12, eσ_12⟩ : ∃ z, z = va_up σ_6 (ad q) (some (oO 16 [.ref (kr q), .ref (X.2.2.2 1), va_rf ((lf q).map ad), .ref (ad y), va_rf ((pa q).map ad), .int (iI (co q))])) := ⟨_, rfl⟩
    have hS : tl_S X s σ_12 H locs := by rw [eσ_12]; exact hS
    have he_13 := up_kp eσ_12 (tl_ne he_7 he_10 (by decide)) he_7
    have he_14 := up_kp eσ_12 (Ne.symm nqx) he_8
    have he_15 := up_kp eσ_12 (Ne.symm nqy) he_9
    have he_16 : σ_12 (ad q) = some (oO 16 [.ref (kr q), .ref (X.2.2.2 1), va_rf ((lf q).map ad), .ref (ad y), va_rf ((pa q).map ad), .int (iI (co q))]) := by rw [eσ_12]; exact up_s
    refine lv_aload_n C.1 C.2.1 dJ21_rotateLeft_85 rfl (lv_at hl 0 rfl) ?_
    refine lv_aload_n C.1 C.2.1 dJ21_rotateLeft_86 rfl (lv_at hl 2 rfl) ?_
    refine gp_J21_111_16 C hS he_15 rfl rfl (Nat.le_of_ble_eq_true rfl) dJ21_rotateLeft_87 (fun H locs hS => ?_)
    obtain ⟨σ_17, eσ_17⟩ : ∃ z, z = va_up σ_12 (ad y) (some (oO 16 [.ref (kr y), .ref (X.2.2.2 1), .ref (ad x), va_rf ((rg y).map ad), .ref (ad q), .int (iI (co y))])) := ⟨_, rfl⟩
    have hS : tl_S X s σ_17 H locs := by rw [eσ_17]; exact hS
    have he_18 := up_kp eσ_17 (tl_ne he_13 he_15 (by decide)) he_13
    have he_19 := up_kp eσ_17 nxy he_14
    have he_20 : σ_17 (ad y) = some (oO 16 [.ref (kr y), .ref (X.2.2.2 1), .ref (ad x), va_rf ((rg y).map ad), .ref (ad q), .int (iI (co y))]) := by rw [eσ_17]; exact up_s
    have he_21 := up_kp eσ_17 nqy he_16
    refine lv_aload_n C.1 C.2.1 dJ21_rotateLeft_90 rfl (lv_at hl 2 rfl) ?_
    refine lv_aload_n C.1 C.2.1 dJ21_rotateLeft_91 rfl (lv_at hl 0 rfl) ?_
    refine gp_J21_124_16 C hS he_19 rfl rfl (Nat.le_of_ble_eq_true rfl) dJ21_rotateLeft_92 (fun H locs hS => ?_)
    obtain ⟨σ_22, eσ_22⟩ : ∃ z, z = va_up σ_17 (ad x) (some (oO 16 [.ref (kr x), .ref (X.2.2.2 1), va_rf ((lf x).map ad), .null, .ref (ad y), .int (iI (co x))])) := ⟨_, rfl⟩
    have hS : tl_S X s σ_22 H locs := by rw [eσ_22]; exact hS
    have he_23 := up_kp eσ_22 (tl_ne he_18 he_19 (by decide)) he_18
    have he_24 : σ_22 (ad x) = some (oO 16 [.ref (kr x), .ref (X.2.2.2 1), va_rf ((lf x).map ad), .null, .ref (ad y), .int (iI (co x))]) := by rw [eσ_22]; exact up_s
    have he_25 := up_kp eσ_22 (Ne.symm nxy) he_20
    have he_26 := up_kp eσ_22 nqx he_21
    have hEnd : ∀ z, S z → σ_22 (ad z) = some (cE (kr z) (X.2.2.2 1) (((rlL lf x y) z).map ad) (((rlR lf rg x y) z).map ad) (((rlP lf pa x y) z).map ad) (co z)) := by
      intro z hz
      rcases rl_at hB hx hy z hz with ⟨rfl, w1, w2, w3⟩ | ⟨rfl, w1, w2, w3⟩ | ⟨w0, w1, w2, w3⟩ | ⟨w0, w4, w1, w2, w3⟩ | ⟨w0, w4, w5, w1, w2, w3⟩ | ⟨w4, w5, w6, w0, w1, w2, w3⟩
      · rw [w1, w2, w3, hm]; exact he_24
      · rw [w1, w2, w3, hp]; exact he_25
      · rw [hm] at w0; cases w0
      · rw [hp] at w0; cases w0; exact absurd w4 hqn
      · rw [hp] at w0; cases w0; rw [w1, w2, w3]; exact he_26
      · (have gT : ad z ≠ T := tl_ne (hE z hz).1 fT (by decide)); (have gx : ad z ≠ ad x := fun u => w4 (hI _ _ hz hx u)); (have gy : ad z ≠ ad y := fun u => w5 (hI _ _ hz sy u)); (have gq : ad z ≠ ad q := fun u => w0 (by rw [hp, hI _ _ hz sq u])); rw [w1, w2, w3, eσ_22, up_n gx, eσ_17, up_n gy, eσ_12, up_n gq, eσ_6, up_n gy, eσ_1, up_n gx]; exact (hE z hz).1
    have hFr : ∀ b e, σ b = some e → nct e → σ_22 b = some e := by
      intro b e hb hn
      have gT : b ≠ T := nct_ne hb hn fT (Or.inl rfl)
      have gx : b ≠ ad x := nct_ne hb hn fx (Or.inr rfl)
      have gy : b ≠ ad y := nct_ne hb hn fy (Or.inr rfl)
      have gq : b ≠ ad q := nct_ne hb hn fq (Or.inr rfl)
      rw [eσ_22, up_n gx, eσ_17, up_n gy, eσ_12, up_n gq, eσ_6, up_n gy, eσ_1, up_n gx]; exact hb
    exact r_v C hr hlk hS ⟨⟨by unfold rlT; rw [if_neg hrt]; exact he_23, fun z hz => ⟨hEnd z hz, hFr _ _ (hE z hz).2.1 (nct_Z z), (hE z hz).2.2⟩, hI⟩, hS.fix, hFr⟩ dJ21_rotateLeft_95
  · skip
    exact absurd hc_11 hqa

set_option maxHeartbeats 4000000 in
theorem m_rotL10 (l : Launch) (X : tl_X) (σ : tl_H) (T : Nat) (n md : Int) (ks : Option Nat) (N : Int) (S : Int → Prop) (rt : Option Int) (lf rg pa : Int → Option Int) (lo hi co : Int → Int) (ad kr : Int → Nat) (hT : TM X σ T n md ks S rt lf rg pa co ad kr) (hB : BT N S rt lf rg pa lo hi) (x y : Int) (hx : S x) (hy : rg x = some y) (mm : Int) (hm : lf y = some mm) (hp : pa x = none) : tl_Met l X yJ21_rotateLeft cJ21_rotateLeft 3 ((Option.none : Option FieldType)) 1 (0) (0) [.ref (T), .ref (ad x)] σ (tl_Qv X (fun σ' => TM X σ' T n md ks S (rlT rt x y) (rlL lf x y) (rlR lf rg x y) (rlP lf pa x y) co ad kr ∧ TF X σ σ')) := by
  obtain ⟨hT0, hE, hI⟩ := hT
  obtain ⟨sy, py, ey1, ey2⟩ := (hB.2.2.2.2.1 x hx).1 y hy
  have bx := hB.1 x hx
  have by_ := hB.1 y sy
  have hxy : x ≠ y := by omega
  have nxy : ad x ≠ ad y := fun z => hxy (hI _ _ hx sy z)
  obtain ⟨sm, pm, em1, em2⟩ := (hB.2.2.2.1 y sy).1 mm hm
  have bm := hB.1 mm sm
  have nmx : ad mm ≠ ad x := fun z => by have := hI _ _ sm hx z; omega
  have nmy : ad mm ≠ ad y := fun z => by have := hI _ _ sm sy z; omega
  have hrt : rt = some x := (hB.2.2.2.2.2.1 x hx).2 hp
  have fT : σ (T) = some (oO 13 [.null, .null, .null, .ref (ad x), .int (iI (n)), .int (iI (md)), .null, va_rf (ks), .null]) := by rw [hT0, hrt]; rfl
  have fx : σ (ad x) = some (oO 16 [.ref (kr x), .ref (X.2.2.2 1), va_rf ((lf x).map ad), .ref (ad y), .null, .int (iI (co x))]) := by rw [(hE x hx).1, hy, hp]; rfl
  have fy : σ (ad y) = some (oO 16 [.ref (kr y), .ref (X.2.2.2 1), .ref (ad mm), va_rf ((rg y).map ad), .ref (ad x), .int (iI (co y))]) := by rw [(hE y sy).1, hm, py]; rfl
  have fm : σ (ad mm) = some (oO 16 [.ref (kr mm), .ref (X.2.2.2 1), va_rf ((lf mm).map ad), va_rf ((rg mm).map ad), .ref (ad y), .int (iI (co mm))]) := by rw [(hE mm sm).1, pm]; rfl
  refine tl_start (by decide) (Nat.le_of_ble_eq_true rfl) (fun p e s m below meth c ls C hr hml hlk hnm hS hl => ?_)
  have hl : lv_has ls 3 [(0, .ref (T)), (1, .ref (ad x))] := hl
  refine lv_aload_n C.1 C.2.1 dJ21_rotateLeft_0 rfl (lv_at hl 1 rfl) ?_
  refine lv_ifnull C.1 C.2.1 dJ21_rotateLeft_1 ?_
  refine lv_aload_n C.1 C.2.1 dJ21_rotateLeft_4 rfl (lv_at hl 1 rfl) ?_
  refine gf_J21_114_16 C hS fx rfl dJ21_rotateLeft_5 ?_
  refine lv_astore_n (lv' := [(2, .ref (ad y)), (0, .ref (T)), (1, .ref (ad x))]) C.1 C.2.1 dJ21_rotateLeft_8 rfl hl (by decide) rfl (fun ls hl => ?_)
  refine lv_aload_n C.1 C.2.1 dJ21_rotateLeft_9 rfl (lv_at hl 2 rfl) ?_
  refine lv_aload_n C.1 C.2.1 dJ21_rotateLeft_10 rfl (lv_at hl 0 rfl) ?_
  refine gf_J21_111_16 C hS fy rfl dJ21_rotateLeft_11 ?_
  refine gp_J21_114_16 C hS fx rfl rfl (Nat.le_of_ble_eq_true rfl) dJ21_rotateLeft_14 (fun H locs hS => ?_)
  obtain ⟨σ_1, eσ_1⟩ : ∃ z, z = va_up σ (ad x) (some (oO 16 [.ref (kr x), .ref (X.2.2.2 1), va_rf ((lf x).map ad), .ref (ad mm), .null, .int (iI (co x))])) := ⟨_, rfl⟩
  have hS : tl_S X s σ_1 H locs := by rw [eσ_1]; exact hS
  have he_2 := up_kp eσ_1 (tl_ne fT fx (by decide)) fT
  have he_3 : σ_1 (ad x) = some (oO 16 [.ref (kr x), .ref (X.2.2.2 1), va_rf ((lf x).map ad), .ref (ad mm), .null, .int (iI (co x))]) := by rw [eσ_1]; exact up_s
  have he_4 := up_kp eσ_1 (Ne.symm nxy) fy
  have he_5 := up_kp eσ_1 nmx fm
  refine lv_aload_n C.1 C.2.1 dJ21_rotateLeft_17 rfl (lv_at hl 0 rfl) ?_
  refine gf_J21_111_16 C hS he_4 rfl dJ21_rotateLeft_18 ?_
  refine lv_ifnull C.1 C.2.1 dJ21_rotateLeft_21 ?_
  refine lv_aload_n C.1 C.2.1 dJ21_rotateLeft_24 rfl (lv_at hl 0 rfl) ?_
  refine gf_J21_111_16 C hS he_4 rfl dJ21_rotateLeft_25 ?_
  refine lv_aload_n C.1 C.2.1 dJ21_rotateLeft_28 rfl (lv_at hl 2 rfl) ?_
  refine gp_J21_124_16 C hS he_5 rfl rfl (Nat.le_of_ble_eq_true rfl) dJ21_rotateLeft_29 (fun H locs hS => ?_)
  obtain ⟨σ_6, eσ_6⟩ : ∃ z, z = va_up σ_1 (ad mm) (some (oO 16 [.ref (kr mm), .ref (X.2.2.2 1), va_rf ((lf mm).map ad), va_rf ((rg mm).map ad), .ref (ad x), .int (iI (co mm))])) := ⟨_, rfl⟩
  have hS : tl_S X s σ_6 H locs := by rw [eσ_6]; exact hS
  have he_7 := up_kp eσ_6 (tl_ne he_2 he_5 (by decide)) he_2
  have he_8 := up_kp eσ_6 (Ne.symm nmx) he_3
  have he_9 := up_kp eσ_6 (Ne.symm nmy) he_4
  have he_10 : σ_6 (ad mm) = some (oO 16 [.ref (kr mm), .ref (X.2.2.2 1), va_rf ((lf mm).map ad), va_rf ((rg mm).map ad), .ref (ad x), .int (iI (co mm))]) := by rw [eσ_6]; exact up_s
  refine lv_aload_n C.1 C.2.1 dJ21_rotateLeft_32 rfl (lv_at hl 0 rfl) ?_
  refine lv_aload_n C.1 C.2.1 dJ21_rotateLeft_33 rfl (lv_at hl 2 rfl) ?_
  refine gf_J21_124_16 C hS he_8 rfl dJ21_rotateLeft_34 ?_
  refine gp_J21_124_16 C hS he_9 rfl rfl (Nat.le_of_ble_eq_true rfl) dJ21_rotateLeft_37 (fun H locs hS => ?_)
  obtain ⟨σ_11, eσ_11⟩ : ∃ z, z = va_up σ_6 (ad y) (some (oO 16 [.ref (kr y), .ref (X.2.2.2 1), .ref (ad mm), va_rf ((rg y).map ad), .null, .int (iI (co y))])) := ⟨_, rfl⟩
  have hS : tl_S X s σ_11 H locs := by rw [eσ_11]; exact hS
  have he_12 := up_kp eσ_11 (tl_ne he_7 he_9 (by decide)) he_7
  have he_13 := up_kp eσ_11 nxy he_8
  have he_14 : σ_11 (ad y) = some (oO 16 [.ref (kr y), .ref (X.2.2.2 1), .ref (ad mm), va_rf ((rg y).map ad), .null, .int (iI (co y))]) := by rw [eσ_11]; exact up_s
  have he_15 := up_kp eσ_11 nmy he_10
  refine lv_aload_n C.1 C.2.1 dJ21_rotateLeft_40 rfl (lv_at hl 2 rfl) ?_
  refine gf_J21_124_16 C hS he_13 rfl dJ21_rotateLeft_41 ?_
  refine lv_ifnonnullN C.1 C.2.1 dJ21_rotateLeft_44 ?_
  refine lv_aload_n C.1 C.2.1 dJ21_rotateLeft_47 rfl (lv_at hl 1 rfl) ?_
  refine lv_aload_n C.1 C.2.1 dJ21_rotateLeft_48 rfl (lv_at hl 0 rfl) ?_
  refine gp_J21_101_13 C hS he_12 rfl rfl (Nat.le_of_ble_eq_true rfl) dJ21_rotateLeft_49 (fun H locs hS => ?_)
  obtain ⟨σ_16, eσ_16⟩ : ∃ z, z = va_up σ_11 (T) (some (oO 13 [.null, .null, .null, .ref (ad y), .int (iI (n)), .int (iI (md)), .null, va_rf (ks), .null])) := ⟨_, rfl⟩
  have hS : tl_S X s σ_16 H locs := by rw [eσ_16]; exact hS
  have he_17 : σ_16 (T) = some (oO 13 [.null, .null, .null, .ref (ad y), .int (iI (n)), .int (iI (md)), .null, va_rf (ks), .null]) := by rw [eσ_16]; exact up_s
  have he_18 := up_kp eσ_16 (tl_ne he_13 he_12 (by decide)) he_13
  have he_19 := up_kp eσ_16 (tl_ne he_14 he_12 (by decide)) he_14
  have he_20 := up_kp eσ_16 (tl_ne he_15 he_12 (by decide)) he_15
  refine lv_goto (tgt := 85) C.1 C.2.1 dJ21_rotateLeft_52 (by decide) ?_
  refine lv_aload_n C.1 C.2.1 dJ21_rotateLeft_85 rfl (lv_at hl 0 rfl) ?_
  refine lv_aload_n C.1 C.2.1 dJ21_rotateLeft_86 rfl (lv_at hl 2 rfl) ?_
  refine gp_J21_111_16 C hS he_19 rfl rfl (Nat.le_of_ble_eq_true rfl) dJ21_rotateLeft_87 (fun H locs hS => ?_)
  obtain ⟨σ_21, eσ_21⟩ : ∃ z, z = va_up σ_16 (ad y) (some (oO 16 [.ref (kr y), .ref (X.2.2.2 1), .ref (ad x), va_rf ((rg y).map ad), .null, .int (iI (co y))])) := ⟨_, rfl⟩
  have hS : tl_S X s σ_21 H locs := by rw [eσ_21]; exact hS
  have he_22 := up_kp eσ_21 (tl_ne he_17 he_19 (by decide)) he_17
  have he_23 := up_kp eσ_21 nxy he_18
  have he_24 : σ_21 (ad y) = some (oO 16 [.ref (kr y), .ref (X.2.2.2 1), .ref (ad x), va_rf ((rg y).map ad), .null, .int (iI (co y))]) := by rw [eσ_21]; exact up_s
  have he_25 := up_kp eσ_21 nmy he_20
  refine lv_aload_n C.1 C.2.1 dJ21_rotateLeft_90 rfl (lv_at hl 2 rfl) ?_
  refine lv_aload_n C.1 C.2.1 dJ21_rotateLeft_91 rfl (lv_at hl 0 rfl) ?_
  refine gp_J21_124_16 C hS he_23 rfl rfl (Nat.le_of_ble_eq_true rfl) dJ21_rotateLeft_92 (fun H locs hS => ?_)
  obtain ⟨σ_26, eσ_26⟩ : ∃ z, z = va_up σ_21 (ad x) (some (oO 16 [.ref (kr x), .ref (X.2.2.2 1), va_rf ((lf x).map ad), .ref (ad mm), .ref (ad y), .int (iI (co x))])) := ⟨_, rfl⟩
  have hS : tl_S X s σ_26 H locs := by rw [eσ_26]; exact hS
  have he_27 := up_kp eσ_26 (tl_ne he_22 he_23 (by decide)) he_22
  have he_28 : σ_26 (ad x) = some (oO 16 [.ref (kr x), .ref (X.2.2.2 1), va_rf ((lf x).map ad), .ref (ad mm), .ref (ad y), .int (iI (co x))]) := by rw [eσ_26]; exact up_s
  have he_29 := up_kp eσ_26 (Ne.symm nxy) he_24
  have he_30 := up_kp eσ_26 nmx he_25
  have hEnd : ∀ z, S z → σ_26 (ad z) = some (cE (kr z) (X.2.2.2 1) (((rlL lf x y) z).map ad) (((rlR lf rg x y) z).map ad) (((rlP lf pa x y) z).map ad) (co z)) := by
    intro z hz
    rcases rl_at hB hx hy z hz with ⟨rfl, w1, w2, w3⟩ | ⟨rfl, w1, w2, w3⟩ | ⟨w0, w1, w2, w3⟩ | ⟨w0, w4, w1, w2, w3⟩ | ⟨w0, w4, w5, w1, w2, w3⟩ | ⟨w4, w5, w6, w0, w1, w2, w3⟩
    · rw [w1, w2, w3, hm]; exact he_28
    · rw [w1, w2, w3, hp]; exact he_29
    · rw [hm] at w0; cases w0; rw [w1, w2, w3]; exact he_30
    · rw [hp] at w0; cases w0
    · rw [hp] at w0; cases w0
    · (have gT : ad z ≠ T := tl_ne (hE z hz).1 fT (by decide)); (have gx : ad z ≠ ad x := fun u => w4 (hI _ _ hz hx u)); (have gy : ad z ≠ ad y := fun u => w5 (hI _ _ hz sy u)); (have gm : ad z ≠ ad mm := fun u => w6 (by rw [hm, hI _ _ hz sm u])); rw [w1, w2, w3, eσ_26, up_n gx, eσ_21, up_n gy, eσ_16, up_n gT, eσ_11, up_n gy, eσ_6, up_n gm, eσ_1, up_n gx]; exact (hE z hz).1
  have hFr : ∀ b e, σ b = some e → nct e → σ_26 b = some e := by
    intro b e hb hn
    have gT : b ≠ T := nct_ne hb hn fT (Or.inl rfl)
    have gx : b ≠ ad x := nct_ne hb hn fx (Or.inr rfl)
    have gy : b ≠ ad y := nct_ne hb hn fy (Or.inr rfl)
    have gm : b ≠ ad mm := nct_ne hb hn fm (Or.inr rfl)
    rw [eσ_26, up_n gx, eσ_21, up_n gy, eσ_16, up_n gT, eσ_11, up_n gy, eσ_6, up_n gm, eσ_1, up_n gx]; exact hb
  exact r_v C hr hlk hS ⟨⟨by unfold rlT; rw [if_pos hrt]; exact he_27, fun z hz => ⟨hEnd z hz, hFr _ _ (hE z hz).2.1 (nct_Z z), (hE z hz).2.2⟩, hI⟩, hS.fix, hFr⟩ dJ21_rotateLeft_95

set_option maxHeartbeats 4000000 in
theorem m_rotL11 (l : Launch) (X : tl_X) (σ : tl_H) (T : Nat) (n md : Int) (ks : Option Nat) (N : Int) (S : Int → Prop) (rt : Option Int) (lf rg pa : Int → Option Int) (lo hi co : Int → Int) (ad kr : Int → Nat) (hT : TM X σ T n md ks S rt lf rg pa co ad kr) (hB : BT N S rt lf rg pa lo hi) (x y : Int) (hx : S x) (hy : rg x = some y) (mm : Int) (hm : lf y = some mm) (q : Int) (hp : pa x = some q) (hq : lf q = some x) : tl_Met l X yJ21_rotateLeft cJ21_rotateLeft 3 ((Option.none : Option FieldType)) 1 (0) (0) [.ref (T), .ref (ad x)] σ (tl_Qv X (fun σ' => TM X σ' T n md ks S (rlT rt x y) (rlL lf x y) (rlR lf rg x y) (rlP lf pa x y) co ad kr ∧ TF X σ σ')) := by
  obtain ⟨hT0, hE, hI⟩ := hT
  obtain ⟨sy, py, ey1, ey2⟩ := (hB.2.2.2.2.1 x hx).1 y hy
  have bx := hB.1 x hx
  have by_ := hB.1 y sy
  have hxy : x ≠ y := by omega
  have nxy : ad x ≠ ad y := fun z => hxy (hI _ _ hx sy z)
  obtain ⟨sm, pm, em1, em2⟩ := (hB.2.2.2.1 y sy).1 mm hm
  have bm := hB.1 mm sm
  have nmx : ad mm ≠ ad x := fun z => by have := hI _ _ sm hx z; omega
  have nmy : ad mm ≠ ad y := fun z => by have := hI _ _ sm sy z; omega
  have sq := ((hB.2.2.2.2.2.1 x hx).1 q hp).1
  obtain ⟨-, -, eq1, eq2⟩ := (hB.2.2.2.1 q sq).1 x hq
  have bq := hB.1 q sq
  have nqx : ad q ≠ ad x := fun z => by have := hI _ _ sq hx z; omega
  have nqy : ad q ≠ ad y := fun z => by have := hI _ _ sq sy z; omega
  have nmq : ad mm ≠ ad q := fun z => by have := hI _ _ sm sq z; omega
  have hrt : rt ≠ some x := fun z => by have := (hB.2.2.2.2.2.2.1 x z).2.1; rw [hp] at this; cases this
  have fT : σ (T) = some (oO 13 [.null, .null, .null, va_rf (rt.map ad), .int (iI (n)), .int (iI (md)), .null, va_rf (ks), .null]) := by exact hT0
  have fx : σ (ad x) = some (oO 16 [.ref (kr x), .ref (X.2.2.2 1), va_rf ((lf x).map ad), .ref (ad y), .ref (ad q), .int (iI (co x))]) := by rw [(hE x hx).1, hy, hp]; rfl
  have fy : σ (ad y) = some (oO 16 [.ref (kr y), .ref (X.2.2.2 1), .ref (ad mm), va_rf ((rg y).map ad), .ref (ad x), .int (iI (co y))]) := by rw [(hE y sy).1, hm, py]; rfl
  have fm : σ (ad mm) = some (oO 16 [.ref (kr mm), .ref (X.2.2.2 1), va_rf ((lf mm).map ad), va_rf ((rg mm).map ad), .ref (ad y), .int (iI (co mm))]) := by rw [(hE mm sm).1, pm]; rfl
  have fq : σ (ad q) = some (oO 16 [.ref (kr q), .ref (X.2.2.2 1), .ref (ad x), va_rf ((rg q).map ad), va_rf ((pa q).map ad), .int (iI (co q))]) := by rw [(hE q sq).1, hq]; rfl
  refine tl_start (by decide) (Nat.le_of_ble_eq_true rfl) (fun p e s m below meth c ls C hr hml hlk hnm hS hl => ?_)
  have hl : lv_has ls 3 [(0, .ref (T)), (1, .ref (ad x))] := hl
  refine lv_aload_n C.1 C.2.1 dJ21_rotateLeft_0 rfl (lv_at hl 1 rfl) ?_
  refine lv_ifnull C.1 C.2.1 dJ21_rotateLeft_1 ?_
  refine lv_aload_n C.1 C.2.1 dJ21_rotateLeft_4 rfl (lv_at hl 1 rfl) ?_
  refine gf_J21_114_16 C hS fx rfl dJ21_rotateLeft_5 ?_
  refine lv_astore_n (lv' := [(2, .ref (ad y)), (0, .ref (T)), (1, .ref (ad x))]) C.1 C.2.1 dJ21_rotateLeft_8 rfl hl (by decide) rfl (fun ls hl => ?_)
  refine lv_aload_n C.1 C.2.1 dJ21_rotateLeft_9 rfl (lv_at hl 2 rfl) ?_
  refine lv_aload_n C.1 C.2.1 dJ21_rotateLeft_10 rfl (lv_at hl 0 rfl) ?_
  refine gf_J21_111_16 C hS fy rfl dJ21_rotateLeft_11 ?_
  refine gp_J21_114_16 C hS fx rfl rfl (Nat.le_of_ble_eq_true rfl) dJ21_rotateLeft_14 (fun H locs hS => ?_)
  obtain ⟨σ_1, eσ_1⟩ : ∃ z, z = va_up σ (ad x) (some (oO 16 [.ref (kr x), .ref (X.2.2.2 1), va_rf ((lf x).map ad), .ref (ad mm), .ref (ad q), .int (iI (co x))])) := ⟨_, rfl⟩
  have hS : tl_S X s σ_1 H locs := by rw [eσ_1]; exact hS
  have he_2 := up_kp eσ_1 (tl_ne fT fx (by decide)) fT
  have he_3 : σ_1 (ad x) = some (oO 16 [.ref (kr x), .ref (X.2.2.2 1), va_rf ((lf x).map ad), .ref (ad mm), .ref (ad q), .int (iI (co x))]) := by rw [eσ_1]; exact up_s
  have he_4 := up_kp eσ_1 (Ne.symm nxy) fy
  have he_5 := up_kp eσ_1 nmx fm
  have he_6 := up_kp eσ_1 nqx fq
  refine lv_aload_n C.1 C.2.1 dJ21_rotateLeft_17 rfl (lv_at hl 0 rfl) ?_
  refine gf_J21_111_16 C hS he_4 rfl dJ21_rotateLeft_18 ?_
  refine lv_ifnull C.1 C.2.1 dJ21_rotateLeft_21 ?_
  refine lv_aload_n C.1 C.2.1 dJ21_rotateLeft_24 rfl (lv_at hl 0 rfl) ?_
  refine gf_J21_111_16 C hS he_4 rfl dJ21_rotateLeft_25 ?_
  refine lv_aload_n C.1 C.2.1 dJ21_rotateLeft_28 rfl (lv_at hl 2 rfl) ?_
  refine gp_J21_124_16 C hS he_5 rfl rfl (Nat.le_of_ble_eq_true rfl) dJ21_rotateLeft_29 (fun H locs hS => ?_)
  obtain ⟨σ_7, eσ_7⟩ : ∃ z, z = va_up σ_1 (ad mm) (some (oO 16 [.ref (kr mm), .ref (X.2.2.2 1), va_rf ((lf mm).map ad), va_rf ((rg mm).map ad), .ref (ad x), .int (iI (co mm))])) := ⟨_, rfl⟩
  have hS : tl_S X s σ_7 H locs := by rw [eσ_7]; exact hS
  have he_8 := up_kp eσ_7 (tl_ne he_2 he_5 (by decide)) he_2
  have he_9 := up_kp eσ_7 (Ne.symm nmx) he_3
  have he_10 := up_kp eσ_7 (Ne.symm nmy) he_4
  have he_11 : σ_7 (ad mm) = some (oO 16 [.ref (kr mm), .ref (X.2.2.2 1), va_rf ((lf mm).map ad), va_rf ((rg mm).map ad), .ref (ad x), .int (iI (co mm))]) := by rw [eσ_7]; exact up_s
  have he_12 := up_kp eσ_7 (Ne.symm nmq) he_6
  refine lv_aload_n C.1 C.2.1 dJ21_rotateLeft_32 rfl (lv_at hl 0 rfl) ?_
  refine lv_aload_n C.1 C.2.1 dJ21_rotateLeft_33 rfl (lv_at hl 2 rfl) ?_
  refine gf_J21_124_16 C hS he_9 rfl dJ21_rotateLeft_34 ?_
  refine gp_J21_124_16 C hS he_10 rfl rfl (Nat.le_of_ble_eq_true rfl) dJ21_rotateLeft_37 (fun H locs hS => ?_)
  obtain ⟨σ_13, eσ_13⟩ : ∃ z, z = va_up σ_7 (ad y) (some (oO 16 [.ref (kr y), .ref (X.2.2.2 1), .ref (ad mm), va_rf ((rg y).map ad), .ref (ad q), .int (iI (co y))])) := ⟨_, rfl⟩
  have hS : tl_S X s σ_13 H locs := by rw [eσ_13]; exact hS
  have he_14 := up_kp eσ_13 (tl_ne he_8 he_10 (by decide)) he_8
  have he_15 := up_kp eσ_13 nxy he_9
  have he_16 : σ_13 (ad y) = some (oO 16 [.ref (kr y), .ref (X.2.2.2 1), .ref (ad mm), va_rf ((rg y).map ad), .ref (ad q), .int (iI (co y))]) := by rw [eσ_13]; exact up_s
  have he_17 := up_kp eσ_13 nmy he_11
  have he_18 := up_kp eσ_13 nqy he_12
  refine lv_aload_n C.1 C.2.1 dJ21_rotateLeft_40 rfl (lv_at hl 2 rfl) ?_
  refine gf_J21_124_16 C hS he_15 rfl dJ21_rotateLeft_41 ?_
  refine lv_ifnonnull (tgt := 55) C.1 C.2.1 dJ21_rotateLeft_44 (by decide) ?_
  refine lv_aload_n C.1 C.2.1 dJ21_rotateLeft_55 rfl (lv_at hl 2 rfl) ?_
  refine gf_J21_124_16 C hS he_15 rfl dJ21_rotateLeft_56 ?_
  refine gf_J21_111_16 C hS he_18 rfl dJ21_rotateLeft_59 ?_
  refine lv_aload_n C.1 C.2.1 dJ21_rotateLeft_62 rfl (lv_at hl 2 rfl) ?_
  refine lv_acmp_ne (tgt := 77) (rx := (some (ad x))) (ry := (some (ad x))) C.1 C.2.1 dJ21_rotateLeft_63 (by decide) (fun hc_19 => ?_) (fun hc_19 => ?_)
  · skip
    exact absurd rfl hc_19
  · skip
    refine lv_aload_n C.1 C.2.1 dJ21_rotateLeft_66 rfl (lv_at hl 2 rfl) ?_
    refine gf_J21_124_16 C hS he_15 rfl dJ21_rotateLeft_67 ?_
    refine lv_aload_n C.1 C.2.1 dJ21_rotateLeft_70 rfl (lv_at hl 0 rfl) ?_
    refine gp_J21_111_16 C hS he_18 rfl rfl (Nat.le_of_ble_eq_true rfl) dJ21_rotateLeft_71 (fun H locs hS => ?_)
    obtain ⟨σ_20, eσ_20⟩ : ∃ z, z = va_up σ_13 (ad q) (some (oO 16 [.ref (kr q), .ref (X.2.2.2 1), .ref (ad y), va_rf ((rg q).map ad), va_rf ((pa q).map ad), .int (iI (co q))])) := ⟨_, rfl⟩
    have hS : tl_S X s σ_20 H locs := by rw [eσ_20]; exact hS
    have he_21 := up_kp eσ_20 (tl_ne he_14 he_18 (by decide)) he_14
    have he_22 := up_kp eσ_20 (Ne.symm nqx) he_15
    have he_23 := up_kp eσ_20 (Ne.symm nqy) he_16
    have he_24 := up_kp eσ_20 nmq he_17
    have he_25 : σ_20 (ad q) = some (oO 16 [.ref (kr q), .ref (X.2.2.2 1), .ref (ad y), va_rf ((rg q).map ad), va_rf ((pa q).map ad), .int (iI (co q))]) := by rw [eσ_20]; exact up_s
    refine lv_goto (tgt := 85) C.1 C.2.1 dJ21_rotateLeft_74 (by decide) ?_
    refine lv_aload_n C.1 C.2.1 dJ21_rotateLeft_85 rfl (lv_at hl 0 rfl) ?_
    refine lv_aload_n C.1 C.2.1 dJ21_rotateLeft_86 rfl (lv_at hl 2 rfl) ?_
    refine gp_J21_111_16 C hS he_23 rfl rfl (Nat.le_of_ble_eq_true rfl) dJ21_rotateLeft_87 (fun H locs hS => ?_)
    obtain ⟨σ_26, eσ_26⟩ : ∃ z, z = va_up σ_20 (ad y) (some (oO 16 [.ref (kr y), .ref (X.2.2.2 1), .ref (ad x), va_rf ((rg y).map ad), .ref (ad q), .int (iI (co y))])) := ⟨_, rfl⟩
    have hS : tl_S X s σ_26 H locs := by rw [eσ_26]; exact hS
    have he_27 := up_kp eσ_26 (tl_ne he_21 he_23 (by decide)) he_21
    have he_28 := up_kp eσ_26 nxy he_22
    have he_29 : σ_26 (ad y) = some (oO 16 [.ref (kr y), .ref (X.2.2.2 1), .ref (ad x), va_rf ((rg y).map ad), .ref (ad q), .int (iI (co y))]) := by rw [eσ_26]; exact up_s
    have he_30 := up_kp eσ_26 nmy he_24
    have he_31 := up_kp eσ_26 nqy he_25
    refine lv_aload_n C.1 C.2.1 dJ21_rotateLeft_90 rfl (lv_at hl 2 rfl) ?_
    refine lv_aload_n C.1 C.2.1 dJ21_rotateLeft_91 rfl (lv_at hl 0 rfl) ?_
    refine gp_J21_124_16 C hS he_28 rfl rfl (Nat.le_of_ble_eq_true rfl) dJ21_rotateLeft_92 (fun H locs hS => ?_)
    obtain ⟨σ_32, eσ_32⟩ : ∃ z, z = va_up σ_26 (ad x) (some (oO 16 [.ref (kr x), .ref (X.2.2.2 1), va_rf ((lf x).map ad), .ref (ad mm), .ref (ad y), .int (iI (co x))])) := ⟨_, rfl⟩
    have hS : tl_S X s σ_32 H locs := by rw [eσ_32]; exact hS
    have he_33 := up_kp eσ_32 (tl_ne he_27 he_28 (by decide)) he_27
    have he_34 : σ_32 (ad x) = some (oO 16 [.ref (kr x), .ref (X.2.2.2 1), va_rf ((lf x).map ad), .ref (ad mm), .ref (ad y), .int (iI (co x))]) := by rw [eσ_32]; exact up_s
    have he_35 := up_kp eσ_32 (Ne.symm nxy) he_29
    have he_36 := up_kp eσ_32 nmx he_30
    have he_37 := up_kp eσ_32 nqx he_31
    have hEnd : ∀ z, S z → σ_32 (ad z) = some (cE (kr z) (X.2.2.2 1) (((rlL lf x y) z).map ad) (((rlR lf rg x y) z).map ad) (((rlP lf pa x y) z).map ad) (co z)) := by
      intro z hz
      rcases rl_at hB hx hy z hz with ⟨rfl, w1, w2, w3⟩ | ⟨rfl, w1, w2, w3⟩ | ⟨w0, w1, w2, w3⟩ | ⟨w0, w4, w1, w2, w3⟩ | ⟨w0, w4, w5, w1, w2, w3⟩ | ⟨w4, w5, w6, w0, w1, w2, w3⟩
      · rw [w1, w2, w3, hm]; exact he_34
      · rw [w1, w2, w3, hp]; exact he_35
      · rw [hm] at w0; cases w0; rw [w1, w2, w3]; exact he_36
      · rw [hp] at w0; cases w0; rw [w1, w2, w3]; exact he_37
      · rw [hp] at w0; cases w0; exact absurd hq w5
      · (have gT : ad z ≠ T := tl_ne (hE z hz).1 fT (by decide)); (have gx : ad z ≠ ad x := fun u => w4 (hI _ _ hz hx u)); (have gy : ad z ≠ ad y := fun u => w5 (hI _ _ hz sy u)); (have gm : ad z ≠ ad mm := fun u => w6 (by rw [hm, hI _ _ hz sm u])); (have gq : ad z ≠ ad q := fun u => w0 (by rw [hp, hI _ _ hz sq u])); rw [w1, w2, w3, eσ_32, up_n gx, eσ_26, up_n gy, eσ_20, up_n gq, eσ_13, up_n gy, eσ_7, up_n gm, eσ_1, up_n gx]; exact (hE z hz).1
    have hFr : ∀ b e, σ b = some e → nct e → σ_32 b = some e := by
      intro b e hb hn
      have gT : b ≠ T := nct_ne hb hn fT (Or.inl rfl)
      have gx : b ≠ ad x := nct_ne hb hn fx (Or.inr rfl)
      have gy : b ≠ ad y := nct_ne hb hn fy (Or.inr rfl)
      have gm : b ≠ ad mm := nct_ne hb hn fm (Or.inr rfl)
      have gq : b ≠ ad q := nct_ne hb hn fq (Or.inr rfl)
      rw [eσ_32, up_n gx, eσ_26, up_n gy, eσ_20, up_n gq, eσ_13, up_n gy, eσ_7, up_n gm, eσ_1, up_n gx]; exact hb
    exact r_v C hr hlk hS ⟨⟨by unfold rlT; rw [if_neg hrt]; exact he_33, fun z hz => ⟨hEnd z hz, hFr _ _ (hE z hz).2.1 (nct_Z z), (hE z hz).2.2⟩, hI⟩, hS.fix, hFr⟩ dJ21_rotateLeft_95

set_option maxHeartbeats 4000000 in
theorem m_rotL12 (l : Launch) (X : tl_X) (σ : tl_H) (T : Nat) (n md : Int) (ks : Option Nat) (N : Int) (S : Int → Prop) (rt : Option Int) (lf rg pa : Int → Option Int) (lo hi co : Int → Int) (ad kr : Int → Nat) (hT : TM X σ T n md ks S rt lf rg pa co ad kr) (hB : BT N S rt lf rg pa lo hi) (x y : Int) (hx : S x) (hy : rg x = some y) (mm : Int) (hm : lf y = some mm) (q : Int) (hp : pa x = some q) (hq : rg q = some x) : tl_Met l X yJ21_rotateLeft cJ21_rotateLeft 3 ((Option.none : Option FieldType)) 1 (0) (0) [.ref (T), .ref (ad x)] σ (tl_Qv X (fun σ' => TM X σ' T n md ks S (rlT rt x y) (rlL lf x y) (rlR lf rg x y) (rlP lf pa x y) co ad kr ∧ TF X σ σ')) := by
  obtain ⟨hT0, hE, hI⟩ := hT
  obtain ⟨sy, py, ey1, ey2⟩ := (hB.2.2.2.2.1 x hx).1 y hy
  have bx := hB.1 x hx
  have by_ := hB.1 y sy
  have hxy : x ≠ y := by omega
  have nxy : ad x ≠ ad y := fun z => hxy (hI _ _ hx sy z)
  obtain ⟨sm, pm, em1, em2⟩ := (hB.2.2.2.1 y sy).1 mm hm
  have bm := hB.1 mm sm
  have nmx : ad mm ≠ ad x := fun z => by have := hI _ _ sm hx z; omega
  have nmy : ad mm ≠ ad y := fun z => by have := hI _ _ sm sy z; omega
  have sq := ((hB.2.2.2.2.2.1 x hx).1 q hp).1
  obtain ⟨-, -, eq1, eq2⟩ := (hB.2.2.2.2.1 q sq).1 x hq
  have bq := hB.1 q sq
  have nqx : ad q ≠ ad x := fun z => by have := hI _ _ sq hx z; omega
  have nqy : ad q ≠ ad y := fun z => by have := hI _ _ sq sy z; omega
  have nmq : ad mm ≠ ad q := fun z => by have := hI _ _ sm sq z; omega
  have hrt : rt ≠ some x := fun z => by have := (hB.2.2.2.2.2.2.1 x z).2.1; rw [hp] at this; cases this
  have hqn : lf q ≠ some x := fun z => by obtain ⟨-, -, u1, u2⟩ := (hB.2.2.2.1 q sq).1 x z; omega
  have hqa : (lf q).map ad ≠ some (ad x) := fun z => by obtain ⟨u, u1, u2⟩ := Option.map_eq_some_iff.mp z; exact hqn (by rw [u1, hI _ _ ((hB.2.2.2.1 q sq).1 u u1).1 hx u2])
  have fT : σ (T) = some (oO 13 [.null, .null, .null, va_rf (rt.map ad), .int (iI (n)), .int (iI (md)), .null, va_rf (ks), .null]) := by exact hT0
  have fx : σ (ad x) = some (oO 16 [.ref (kr x), .ref (X.2.2.2 1), va_rf ((lf x).map ad), .ref (ad y), .ref (ad q), .int (iI (co x))]) := by rw [(hE x hx).1, hy, hp]; rfl
  have fy : σ (ad y) = some (oO 16 [.ref (kr y), .ref (X.2.2.2 1), .ref (ad mm), va_rf ((rg y).map ad), .ref (ad x), .int (iI (co y))]) := by rw [(hE y sy).1, hm, py]; rfl
  have fm : σ (ad mm) = some (oO 16 [.ref (kr mm), .ref (X.2.2.2 1), va_rf ((lf mm).map ad), va_rf ((rg mm).map ad), .ref (ad y), .int (iI (co mm))]) := by rw [(hE mm sm).1, pm]; rfl
  have fq : σ (ad q) = some (oO 16 [.ref (kr q), .ref (X.2.2.2 1), va_rf ((lf q).map ad), .ref (ad x), va_rf ((pa q).map ad), .int (iI (co q))]) := by rw [(hE q sq).1, hq]; rfl
  refine tl_start (by decide) (Nat.le_of_ble_eq_true rfl) (fun p e s m below meth c ls C hr hml hlk hnm hS hl => ?_)
  have hl : lv_has ls 3 [(0, .ref (T)), (1, .ref (ad x))] := hl
  refine lv_aload_n C.1 C.2.1 dJ21_rotateLeft_0 rfl (lv_at hl 1 rfl) ?_
  refine lv_ifnull C.1 C.2.1 dJ21_rotateLeft_1 ?_
  refine lv_aload_n C.1 C.2.1 dJ21_rotateLeft_4 rfl (lv_at hl 1 rfl) ?_
  refine gf_J21_114_16 C hS fx rfl dJ21_rotateLeft_5 ?_
  refine lv_astore_n (lv' := [(2, .ref (ad y)), (0, .ref (T)), (1, .ref (ad x))]) C.1 C.2.1 dJ21_rotateLeft_8 rfl hl (by decide) rfl (fun ls hl => ?_)
  refine lv_aload_n C.1 C.2.1 dJ21_rotateLeft_9 rfl (lv_at hl 2 rfl) ?_
  refine lv_aload_n C.1 C.2.1 dJ21_rotateLeft_10 rfl (lv_at hl 0 rfl) ?_
  refine gf_J21_111_16 C hS fy rfl dJ21_rotateLeft_11 ?_
  refine gp_J21_114_16 C hS fx rfl rfl (Nat.le_of_ble_eq_true rfl) dJ21_rotateLeft_14 (fun H locs hS => ?_)
  obtain ⟨σ_1, eσ_1⟩ : ∃ z, z = va_up σ (ad x) (some (oO 16 [.ref (kr x), .ref (X.2.2.2 1), va_rf ((lf x).map ad), .ref (ad mm), .ref (ad q), .int (iI (co x))])) := ⟨_, rfl⟩
  have hS : tl_S X s σ_1 H locs := by rw [eσ_1]; exact hS
  have he_2 := up_kp eσ_1 (tl_ne fT fx (by decide)) fT
  have he_3 : σ_1 (ad x) = some (oO 16 [.ref (kr x), .ref (X.2.2.2 1), va_rf ((lf x).map ad), .ref (ad mm), .ref (ad q), .int (iI (co x))]) := by rw [eσ_1]; exact up_s
  have he_4 := up_kp eσ_1 (Ne.symm nxy) fy
  have he_5 := up_kp eσ_1 nmx fm
  have he_6 := up_kp eσ_1 nqx fq
  refine lv_aload_n C.1 C.2.1 dJ21_rotateLeft_17 rfl (lv_at hl 0 rfl) ?_
  refine gf_J21_111_16 C hS he_4 rfl dJ21_rotateLeft_18 ?_
  refine lv_ifnull C.1 C.2.1 dJ21_rotateLeft_21 ?_
  refine lv_aload_n C.1 C.2.1 dJ21_rotateLeft_24 rfl (lv_at hl 0 rfl) ?_
  refine gf_J21_111_16 C hS he_4 rfl dJ21_rotateLeft_25 ?_
  refine lv_aload_n C.1 C.2.1 dJ21_rotateLeft_28 rfl (lv_at hl 2 rfl) ?_
  refine gp_J21_124_16 C hS he_5 rfl rfl (Nat.le_of_ble_eq_true rfl) dJ21_rotateLeft_29 (fun H locs hS => ?_)
  obtain ⟨σ_7, eσ_7⟩ : ∃ z, z = va_up σ_1 (ad mm) (some (oO 16 [.ref (kr mm), .ref (X.2.2.2 1), va_rf ((lf mm).map ad), va_rf ((rg mm).map ad), .ref (ad x), .int (iI (co mm))])) := ⟨_, rfl⟩
  have hS : tl_S X s σ_7 H locs := by rw [eσ_7]; exact hS
  have he_8 := up_kp eσ_7 (tl_ne he_2 he_5 (by decide)) he_2
  have he_9 := up_kp eσ_7 (Ne.symm nmx) he_3
  have he_10 := up_kp eσ_7 (Ne.symm nmy) he_4
  have he_11 : σ_7 (ad mm) = some (oO 16 [.ref (kr mm), .ref (X.2.2.2 1), va_rf ((lf mm).map ad), va_rf ((rg mm).map ad), .ref (ad x), .int (iI (co mm))]) := by rw [eσ_7]; exact up_s
  have he_12 := up_kp eσ_7 (Ne.symm nmq) he_6
  refine lv_aload_n C.1 C.2.1 dJ21_rotateLeft_32 rfl (lv_at hl 0 rfl) ?_
  refine lv_aload_n C.1 C.2.1 dJ21_rotateLeft_33 rfl (lv_at hl 2 rfl) ?_
  refine gf_J21_124_16 C hS he_9 rfl dJ21_rotateLeft_34 ?_
  refine gp_J21_124_16 C hS he_10 rfl rfl (Nat.le_of_ble_eq_true rfl) dJ21_rotateLeft_37 (fun H locs hS => ?_)
  obtain ⟨σ_13, eσ_13⟩ : ∃ z, z = va_up σ_7 (ad y) (some (oO 16 [.ref (kr y), .ref (X.2.2.2 1), .ref (ad mm), va_rf ((rg y).map ad), .ref (ad q), .int (iI (co y))])) := ⟨_, rfl⟩
  have hS : tl_S X s σ_13 H locs := by rw [eσ_13]; exact hS
  have he_14 := up_kp eσ_13 (tl_ne he_8 he_10 (by decide)) he_8
  have he_15 := up_kp eσ_13 nxy he_9
  have he_16 : σ_13 (ad y) = some (oO 16 [.ref (kr y), .ref (X.2.2.2 1), .ref (ad mm), va_rf ((rg y).map ad), .ref (ad q), .int (iI (co y))]) := by rw [eσ_13]; exact up_s
  have he_17 := up_kp eσ_13 nmy he_11
  have he_18 := up_kp eσ_13 nqy he_12
  refine lv_aload_n C.1 C.2.1 dJ21_rotateLeft_40 rfl (lv_at hl 2 rfl) ?_
  refine gf_J21_124_16 C hS he_15 rfl dJ21_rotateLeft_41 ?_
  refine lv_ifnonnull (tgt := 55) C.1 C.2.1 dJ21_rotateLeft_44 (by decide) ?_
  refine lv_aload_n C.1 C.2.1 dJ21_rotateLeft_55 rfl (lv_at hl 2 rfl) ?_
  refine gf_J21_124_16 C hS he_15 rfl dJ21_rotateLeft_56 ?_
  refine gf_J21_111_16 C hS he_18 rfl dJ21_rotateLeft_59 ?_
  refine lv_aload_n C.1 C.2.1 dJ21_rotateLeft_62 rfl (lv_at hl 2 rfl) ?_
  refine lv_acmp_ne (tgt := 77) (rx := ((lf q).map ad)) (ry := (some (ad x))) C.1 C.2.1 dJ21_rotateLeft_63 (by decide) (fun hc_19 => ?_) (fun hc_19 => ?_)
  · skip
    refine lv_aload_n C.1 C.2.1 dJ21_rotateLeft_77 rfl (lv_at hl 2 rfl) ?_
    refine gf_J21_124_16 C hS he_15 rfl dJ21_rotateLeft_78 ?_
    refine lv_aload_n C.1 C.2.1 dJ21_rotateLeft_81 rfl (lv_at hl 0 rfl) ?_
    refine gp_J21_114_16 C hS he_18 rfl rfl (Nat.le_of_ble_eq_true rfl) dJ21_rotateLeft_82 (fun H locs hS => ?_)
    obtain ⟨σ_20, eσ_20⟩ : ∃ z, z = va_up σ_13 (ad q) (some (oO 16 [.ref (kr q), .ref (X.2.2.2 1), va_rf ((lf q).map ad), .ref (ad y), va_rf ((pa q).map ad), .int (iI (co q))])) := ⟨_, rfl⟩
    have hS : tl_S X s σ_20 H locs := by rw [eσ_20]; exact hS
    have he_21 := up_kp eσ_20 (tl_ne he_14 he_18 (by decide)) he_14
    have he_22 := up_kp eσ_20 (Ne.symm nqx) he_15
    have he_23 := up_kp eσ_20 (Ne.symm nqy) he_16
    have he_24 := up_kp eσ_20 nmq he_17
    have he_25 : σ_20 (ad q) = some (oO 16 [.ref (kr q), .ref (X.2.2.2 1), va_rf ((lf q).map ad), .ref (ad y), va_rf ((pa q).map ad), .int (iI (co q))]) := by rw [eσ_20]; exact up_s
    refine lv_aload_n C.1 C.2.1 dJ21_rotateLeft_85 rfl (lv_at hl 0 rfl) ?_
    refine lv_aload_n C.1 C.2.1 dJ21_rotateLeft_86 rfl (lv_at hl 2 rfl) ?_
    refine gp_J21_111_16 C hS he_23 rfl rfl (Nat.le_of_ble_eq_true rfl) dJ21_rotateLeft_87 (fun H locs hS => ?_)
    obtain ⟨σ_26, eσ_26⟩ : ∃ z, z = va_up σ_20 (ad y) (some (oO 16 [.ref (kr y), .ref (X.2.2.2 1), .ref (ad x), va_rf ((rg y).map ad), .ref (ad q), .int (iI (co y))])) := ⟨_, rfl⟩
    have hS : tl_S X s σ_26 H locs := by rw [eσ_26]; exact hS
    have he_27 := up_kp eσ_26 (tl_ne he_21 he_23 (by decide)) he_21
    have he_28 := up_kp eσ_26 nxy he_22
    have he_29 : σ_26 (ad y) = some (oO 16 [.ref (kr y), .ref (X.2.2.2 1), .ref (ad x), va_rf ((rg y).map ad), .ref (ad q), .int (iI (co y))]) := by rw [eσ_26]; exact up_s
    have he_30 := up_kp eσ_26 nmy he_24
    have he_31 := up_kp eσ_26 nqy he_25
    refine lv_aload_n C.1 C.2.1 dJ21_rotateLeft_90 rfl (lv_at hl 2 rfl) ?_
    refine lv_aload_n C.1 C.2.1 dJ21_rotateLeft_91 rfl (lv_at hl 0 rfl) ?_
    refine gp_J21_124_16 C hS he_28 rfl rfl (Nat.le_of_ble_eq_true rfl) dJ21_rotateLeft_92 (fun H locs hS => ?_)
    obtain ⟨σ_32, eσ_32⟩ : ∃ z, z = va_up σ_26 (ad x) (some (oO 16 [.ref (kr x), .ref (X.2.2.2 1), va_rf ((lf x).map ad), .ref (ad mm), .ref (ad y), .int (iI (co x))])) := ⟨_, rfl⟩
    have hS : tl_S X s σ_32 H locs := by rw [eσ_32]; exact hS
    have he_33 := up_kp eσ_32 (tl_ne he_27 he_28 (by decide)) he_27
    have he_34 : σ_32 (ad x) = some (oO 16 [.ref (kr x), .ref (X.2.2.2 1), va_rf ((lf x).map ad), .ref (ad mm), .ref (ad y), .int (iI (co x))]) := by rw [eσ_32]; exact up_s
    have he_35 := up_kp eσ_32 (Ne.symm nxy) he_29
    have he_36 := up_kp eσ_32 nmx he_30
    have he_37 := up_kp eσ_32 nqx he_31
    have hEnd : ∀ z, S z → σ_32 (ad z) = some (cE (kr z) (X.2.2.2 1) (((rlL lf x y) z).map ad) (((rlR lf rg x y) z).map ad) (((rlP lf pa x y) z).map ad) (co z)) := by
      intro z hz
      rcases rl_at hB hx hy z hz with ⟨rfl, w1, w2, w3⟩ | ⟨rfl, w1, w2, w3⟩ | ⟨w0, w1, w2, w3⟩ | ⟨w0, w4, w1, w2, w3⟩ | ⟨w0, w4, w5, w1, w2, w3⟩ | ⟨w4, w5, w6, w0, w1, w2, w3⟩
      · rw [w1, w2, w3, hm]; exact he_34
      · rw [w1, w2, w3, hp]; exact he_35
      · rw [hm] at w0; cases w0; rw [w1, w2, w3]; exact he_36
      · rw [hp] at w0; cases w0; exact absurd w4 hqn
      · rw [hp] at w0; cases w0; rw [w1, w2, w3]; exact he_37
      · (have gT : ad z ≠ T := tl_ne (hE z hz).1 fT (by decide)); (have gx : ad z ≠ ad x := fun u => w4 (hI _ _ hz hx u)); (have gy : ad z ≠ ad y := fun u => w5 (hI _ _ hz sy u)); (have gm : ad z ≠ ad mm := fun u => w6 (by rw [hm, hI _ _ hz sm u])); (have gq : ad z ≠ ad q := fun u => w0 (by rw [hp, hI _ _ hz sq u])); rw [w1, w2, w3, eσ_32, up_n gx, eσ_26, up_n gy, eσ_20, up_n gq, eσ_13, up_n gy, eσ_7, up_n gm, eσ_1, up_n gx]; exact (hE z hz).1
    have hFr : ∀ b e, σ b = some e → nct e → σ_32 b = some e := by
      intro b e hb hn
      have gT : b ≠ T := nct_ne hb hn fT (Or.inl rfl)
      have gx : b ≠ ad x := nct_ne hb hn fx (Or.inr rfl)
      have gy : b ≠ ad y := nct_ne hb hn fy (Or.inr rfl)
      have gm : b ≠ ad mm := nct_ne hb hn fm (Or.inr rfl)
      have gq : b ≠ ad q := nct_ne hb hn fq (Or.inr rfl)
      rw [eσ_32, up_n gx, eσ_26, up_n gy, eσ_20, up_n gq, eσ_13, up_n gy, eσ_7, up_n gm, eσ_1, up_n gx]; exact hb
    exact r_v C hr hlk hS ⟨⟨by unfold rlT; rw [if_neg hrt]; exact he_33, fun z hz => ⟨hEnd z hz, hFr _ _ (hE z hz).2.1 (nct_Z z), (hE z hz).2.2⟩, hI⟩, hS.fix, hFr⟩ dJ21_rotateLeft_95
  · skip
    exact absurd hc_19 hqa

theorem m_rotL (l : Launch) (X : tl_X) (σ : tl_H) (T : Nat) (n md : Int) (ks : Option Nat) (N : Int) (S : Int → Prop) (rt : Option Int) (lf rg pa : Int → Option Int) (lo hi co : Int → Int) (ad kr : Int → Nat) (hT : TM X σ T n md ks S rt lf rg pa co ad kr) (hB : BT N S rt lf rg pa lo hi) (x y : Int) (hx : S x) (hy : rg x = some y) : tl_Met l X yJ21_rotateLeft cJ21_rotateLeft 3 ((Option.none : Option FieldType)) 1 (0) (0) [.ref (T), .ref (ad x)] σ (tl_Qv X (fun σ' => TM X σ' T n md ks S (rlT rt x y) (rlL lf x y) (rlR lf rg x y) (rlP lf pa x y) co ad kr ∧ TF X σ σ')) := by
  cases hm : lf y with
  | none =>
    cases hp : pa x with
    | none => exact m_rotL00 l X σ T n md ks N S rt lf rg pa lo hi co ad kr hT hB x y hx hy hm hp
    | some q =>
      rcases ((hB.2.2.2.2.2.1 x hx).1 q hp).2 with u | u
      · exact m_rotL01 l X σ T n md ks N S rt lf rg pa lo hi co ad kr hT hB x y hx hy hm q hp u
      · exact m_rotL02 l X σ T n md ks N S rt lf rg pa lo hi co ad kr hT hB x y hx hy hm q hp u
  | some mm =>
    cases hp : pa x with
    | none => exact m_rotL10 l X σ T n md ks N S rt lf rg pa lo hi co ad kr hT hB x y hx hy mm hm hp
    | some q =>
      rcases ((hB.2.2.2.2.2.1 x hx).1 q hp).2 with u | u
      · exact m_rotL11 l X σ T n md ks N S rt lf rg pa lo hi co ad kr hT hB x y hx hy mm hm q hp u
      · exact m_rotL12 l X σ T n md ks N S rt lf rg pa lo hi co ad kr hT hB x y hx hy mm hm q hp u

set_option maxHeartbeats 4000000 in
theorem m_rotR00 (l : Launch) (X : tl_X) (σ : tl_H) (T : Nat) (n md : Int) (ks : Option Nat) (N : Int) (S : Int → Prop) (rt : Option Int) (lf rg pa : Int → Option Int) (lo hi co : Int → Int) (ad kr : Int → Nat) (hT : TM X σ T n md ks S rt lf rg pa co ad kr) (hB : BT N S rt lf rg pa lo hi) (x y : Int) (hx : S x) (hy : lf x = some y) (hm : rg y = none) (hp : pa x = none) : tl_Met l X yJ21_rotateRight cJ21_rotateRight 3 ((Option.none : Option FieldType)) 1 (0) (0) [.ref (T), .ref (ad x)] σ (tl_Qv X (fun σ' => TM X σ' T n md ks S (rlT rt x y) (rlR rg lf x y) (rlL rg x y) (rlP rg pa x y) co ad kr ∧ TF X σ σ')) := by
  obtain ⟨hT0, hE, hI⟩ := hT
  obtain ⟨sy, py, ey1, ey2⟩ := (hB.2.2.2.1 x hx).1 y hy
  have bx := hB.1 x hx
  have by_ := hB.1 y sy
  have hxy : x ≠ y := by omega
  have nxy : ad x ≠ ad y := fun z => hxy (hI _ _ hx sy z)
  have hrt : rt = some x := (hB.2.2.2.2.2.1 x hx).2 hp
  have fT : σ (T) = some (oO 13 [.null, .null, .null, .ref (ad x), .int (iI (n)), .int (iI (md)), .null, va_rf (ks), .null]) := by rw [hT0, hrt]; rfl
  have fx : σ (ad x) = some (oO 16 [.ref (kr x), .ref (X.2.2.2 1), .ref (ad y), va_rf ((rg x).map ad), .null, .int (iI (co x))]) := by rw [(hE x hx).1, hy, hp]; rfl
  have fy : σ (ad y) = some (oO 16 [.ref (kr y), .ref (X.2.2.2 1), va_rf ((lf y).map ad), .null, .ref (ad x), .int (iI (co y))]) := by rw [(hE y sy).1, hm, py]; rfl
  refine tl_start (by decide) (Nat.le_of_ble_eq_true rfl) (fun p e s m below meth c ls C hr hml hlk hnm hS hl => ?_)
  have hl : lv_has ls 3 [(0, .ref (T)), (1, .ref (ad x))] := hl
  refine lv_aload_n C.1 C.2.1 dJ21_rotateRight_0 rfl (lv_at hl 1 rfl) ?_
  refine lv_ifnull C.1 C.2.1 dJ21_rotateRight_1 ?_
  refine lv_aload_n C.1 C.2.1 dJ21_rotateRight_4 rfl (lv_at hl 1 rfl) ?_
  refine gf_J21_111_16 C hS fx rfl dJ21_rotateRight_5 ?_
  refine lv_astore_n (lv' := [(2, .ref (ad y)), (0, .ref (T)), (1, .ref (ad x))]) C.1 C.2.1 dJ21_rotateRight_8 rfl hl (by decide) rfl (fun ls hl => ?_)
  refine lv_aload_n C.1 C.2.1 dJ21_rotateRight_9 rfl (lv_at hl 2 rfl) ?_
  refine lv_aload_n C.1 C.2.1 dJ21_rotateRight_10 rfl (lv_at hl 0 rfl) ?_
  refine gf_J21_114_16 C hS fy rfl dJ21_rotateRight_11 ?_
  refine gp_J21_111_16 C hS fx rfl rfl (Nat.le_of_ble_eq_true rfl) dJ21_rotateRight_14 (fun H locs hS => ?_)
  obtain ⟨σ_1, eσ_1⟩ : ∃ z, z = va_up σ (ad x) (some (oO 16 [.ref (kr x), .ref (X.2.2.2 1), .null, va_rf ((rg x).map ad), .null, .int (iI (co x))])) := ⟨_, rfl⟩
  have hS : tl_S X s σ_1 H locs := by rw [eσ_1]; exact hS
  have he_2 := up_kp eσ_1 (tl_ne fT fx (by decide)) fT
  have he_3 : σ_1 (ad x) = some (oO 16 [.ref (kr x), .ref (X.2.2.2 1), .null, va_rf ((rg x).map ad), .null, .int (iI (co x))]) := by rw [eσ_1]; exact up_s
  have he_4 := up_kp eσ_1 (Ne.symm nxy) fy
  refine lv_aload_n C.1 C.2.1 dJ21_rotateRight_17 rfl (lv_at hl 0 rfl) ?_
  refine gf_J21_114_16 C hS he_4 rfl dJ21_rotateRight_18 ?_
  refine lv_ifnullN (tgt := 32) C.1 C.2.1 dJ21_rotateRight_21 (by decide) ?_
  refine lv_aload_n C.1 C.2.1 dJ21_rotateRight_32 rfl (lv_at hl 0 rfl) ?_
  refine lv_aload_n C.1 C.2.1 dJ21_rotateRight_33 rfl (lv_at hl 2 rfl) ?_
  refine gf_J21_124_16 C hS he_3 rfl dJ21_rotateRight_34 ?_
  refine gp_J21_124_16 C hS he_4 rfl rfl (Nat.le_of_ble_eq_true rfl) dJ21_rotateRight_37 (fun H locs hS => ?_)
  obtain ⟨σ_5, eσ_5⟩ : ∃ z, z = va_up σ_1 (ad y) (some (oO 16 [.ref (kr y), .ref (X.2.2.2 1), va_rf ((lf y).map ad), .null, .null, .int (iI (co y))])) := ⟨_, rfl⟩
  have hS : tl_S X s σ_5 H locs := by rw [eσ_5]; exact hS
  have he_6 := up_kp eσ_5 (tl_ne he_2 he_4 (by decide)) he_2
  have he_7 := up_kp eσ_5 nxy he_3
  have he_8 : σ_5 (ad y) = some (oO 16 [.ref (kr y), .ref (X.2.2.2 1), va_rf ((lf y).map ad), .null, .null, .int (iI (co y))]) := by rw [eσ_5]; exact up_s
  refine lv_aload_n C.1 C.2.1 dJ21_rotateRight_40 rfl (lv_at hl 2 rfl) ?_
  refine gf_J21_124_16 C hS he_7 rfl dJ21_rotateRight_41 ?_
  refine lv_ifnonnullN C.1 C.2.1 dJ21_rotateRight_44 ?_
  refine lv_aload_n C.1 C.2.1 dJ21_rotateRight_47 rfl (lv_at hl 1 rfl) ?_
  refine lv_aload_n C.1 C.2.1 dJ21_rotateRight_48 rfl (lv_at hl 0 rfl) ?_
  refine gp_J21_101_13 C hS he_6 rfl rfl (Nat.le_of_ble_eq_true rfl) dJ21_rotateRight_49 (fun H locs hS => ?_)
  obtain ⟨σ_9, eσ_9⟩ : ∃ z, z = va_up σ_5 (T) (some (oO 13 [.null, .null, .null, .ref (ad y), .int (iI (n)), .int (iI (md)), .null, va_rf (ks), .null])) := ⟨_, rfl⟩
  have hS : tl_S X s σ_9 H locs := by rw [eσ_9]; exact hS
  have he_10 : σ_9 (T) = some (oO 13 [.null, .null, .null, .ref (ad y), .int (iI (n)), .int (iI (md)), .null, va_rf (ks), .null]) := by rw [eσ_9]; exact up_s
  have he_11 := up_kp eσ_9 (tl_ne he_7 he_6 (by decide)) he_7
  have he_12 := up_kp eσ_9 (tl_ne he_8 he_6 (by decide)) he_8
  refine lv_goto (tgt := 85) C.1 C.2.1 dJ21_rotateRight_52 (by decide) ?_
  refine lv_aload_n C.1 C.2.1 dJ21_rotateRight_85 rfl (lv_at hl 0 rfl) ?_
  refine lv_aload_n C.1 C.2.1 dJ21_rotateRight_86 rfl (lv_at hl 2 rfl) ?_
  refine gp_J21_114_16 C hS he_12 rfl rfl (Nat.le_of_ble_eq_true rfl) dJ21_rotateRight_87 (fun H locs hS => ?_)
  obtain ⟨σ_13, eσ_13⟩ : ∃ z, z = va_up σ_9 (ad y) (some (oO 16 [.ref (kr y), .ref (X.2.2.2 1), va_rf ((lf y).map ad), .ref (ad x), .null, .int (iI (co y))])) := ⟨_, rfl⟩
  have hS : tl_S X s σ_13 H locs := by rw [eσ_13]; exact hS
  have he_14 := up_kp eσ_13 (tl_ne he_10 he_12 (by decide)) he_10
  have he_15 := up_kp eσ_13 nxy he_11
  have he_16 : σ_13 (ad y) = some (oO 16 [.ref (kr y), .ref (X.2.2.2 1), va_rf ((lf y).map ad), .ref (ad x), .null, .int (iI (co y))]) := by rw [eσ_13]; exact up_s
  refine lv_aload_n C.1 C.2.1 dJ21_rotateRight_90 rfl (lv_at hl 2 rfl) ?_
  refine lv_aload_n C.1 C.2.1 dJ21_rotateRight_91 rfl (lv_at hl 0 rfl) ?_
  refine gp_J21_124_16 C hS he_15 rfl rfl (Nat.le_of_ble_eq_true rfl) dJ21_rotateRight_92 (fun H locs hS => ?_)
  obtain ⟨σ_17, eσ_17⟩ : ∃ z, z = va_up σ_13 (ad x) (some (oO 16 [.ref (kr x), .ref (X.2.2.2 1), .null, va_rf ((rg x).map ad), .ref (ad y), .int (iI (co x))])) := ⟨_, rfl⟩
  have hS : tl_S X s σ_17 H locs := by rw [eσ_17]; exact hS
  have he_18 := up_kp eσ_17 (tl_ne he_14 he_15 (by decide)) he_14
  have he_19 : σ_17 (ad x) = some (oO 16 [.ref (kr x), .ref (X.2.2.2 1), .null, va_rf ((rg x).map ad), .ref (ad y), .int (iI (co x))]) := by rw [eσ_17]; exact up_s
  have he_20 := up_kp eσ_17 (Ne.symm nxy) he_16
  have hEnd : ∀ z, S z → σ_17 (ad z) = some (cE (kr z) (X.2.2.2 1) (((rlR rg lf x y) z).map ad) (((rlL rg x y) z).map ad) (((rlP rg pa x y) z).map ad) (co z)) := by
    intro z hz
    rcases rr_at hB hx hy z hz with ⟨rfl, w1, w2, w3⟩ | ⟨rfl, w1, w2, w3⟩ | ⟨w0, w1, w2, w3⟩ | ⟨w0, w4, w1, w2, w3⟩ | ⟨w0, w4, w5, w1, w2, w3⟩ | ⟨w4, w5, w6, w0, w1, w2, w3⟩
    · rw [w1, w2, w3, hm]; exact he_19
    · rw [w1, w2, w3, hp]; exact he_20
    · rw [hm] at w0; cases w0
    · rw [hp] at w0; cases w0
    · rw [hp] at w0; cases w0
    · (have gT : ad z ≠ T := tl_ne (hE z hz).1 fT (by decide)); (have gx : ad z ≠ ad x := fun u => w4 (hI _ _ hz hx u)); (have gy : ad z ≠ ad y := fun u => w5 (hI _ _ hz sy u)); rw [w1, w2, w3, eσ_17, up_n gx, eσ_13, up_n gy, eσ_9, up_n gT, eσ_5, up_n gy, eσ_1, up_n gx]; exact (hE z hz).1
  have hFr : ∀ b e, σ b = some e → nct e → σ_17 b = some e := by
    intro b e hb hn
    have gT : b ≠ T := nct_ne hb hn fT (Or.inl rfl)
    have gx : b ≠ ad x := nct_ne hb hn fx (Or.inr rfl)
    have gy : b ≠ ad y := nct_ne hb hn fy (Or.inr rfl)
    rw [eσ_17, up_n gx, eσ_13, up_n gy, eσ_9, up_n gT, eσ_5, up_n gy, eσ_1, up_n gx]; exact hb
  exact r_v C hr hlk hS ⟨⟨by unfold rlT; rw [if_pos hrt]; exact he_18, fun z hz => ⟨hEnd z hz, hFr _ _ (hE z hz).2.1 (nct_Z z), (hE z hz).2.2⟩, hI⟩, hS.fix, hFr⟩ dJ21_rotateRight_95

set_option maxHeartbeats 4000000 in
theorem m_rotR01 (l : Launch) (X : tl_X) (σ : tl_H) (T : Nat) (n md : Int) (ks : Option Nat) (N : Int) (S : Int → Prop) (rt : Option Int) (lf rg pa : Int → Option Int) (lo hi co : Int → Int) (ad kr : Int → Nat) (hT : TM X σ T n md ks S rt lf rg pa co ad kr) (hB : BT N S rt lf rg pa lo hi) (x y : Int) (hx : S x) (hy : lf x = some y) (hm : rg y = none) (q : Int) (hp : pa x = some q) (hq : rg q = some x) : tl_Met l X yJ21_rotateRight cJ21_rotateRight 3 ((Option.none : Option FieldType)) 1 (0) (0) [.ref (T), .ref (ad x)] σ (tl_Qv X (fun σ' => TM X σ' T n md ks S (rlT rt x y) (rlR rg lf x y) (rlL rg x y) (rlP rg pa x y) co ad kr ∧ TF X σ σ')) := by
  obtain ⟨hT0, hE, hI⟩ := hT
  obtain ⟨sy, py, ey1, ey2⟩ := (hB.2.2.2.1 x hx).1 y hy
  have bx := hB.1 x hx
  have by_ := hB.1 y sy
  have hxy : x ≠ y := by omega
  have nxy : ad x ≠ ad y := fun z => hxy (hI _ _ hx sy z)
  have sq := ((hB.2.2.2.2.2.1 x hx).1 q hp).1
  obtain ⟨-, -, eq1, eq2⟩ := (hB.2.2.2.2.1 q sq).1 x hq
  have bq := hB.1 q sq
  have nqx : ad q ≠ ad x := fun z => by have := hI _ _ sq hx z; omega
  have nqy : ad q ≠ ad y := fun z => by have := hI _ _ sq sy z; omega
  have hrt : rt ≠ some x := fun z => by have := (hB.2.2.2.2.2.2.1 x z).2.1; rw [hp] at this; cases this
  have fT : σ (T) = some (oO 13 [.null, .null, .null, va_rf (rt.map ad), .int (iI (n)), .int (iI (md)), .null, va_rf (ks), .null]) := by exact hT0
  have fx : σ (ad x) = some (oO 16 [.ref (kr x), .ref (X.2.2.2 1), .ref (ad y), va_rf ((rg x).map ad), .ref (ad q), .int (iI (co x))]) := by rw [(hE x hx).1, hy, hp]; rfl
  have fy : σ (ad y) = some (oO 16 [.ref (kr y), .ref (X.2.2.2 1), va_rf ((lf y).map ad), .null, .ref (ad x), .int (iI (co y))]) := by rw [(hE y sy).1, hm, py]; rfl
  have fq : σ (ad q) = some (oO 16 [.ref (kr q), .ref (X.2.2.2 1), va_rf ((lf q).map ad), .ref (ad x), va_rf ((pa q).map ad), .int (iI (co q))]) := by rw [(hE q sq).1, hq]; rfl
  refine tl_start (by decide) (Nat.le_of_ble_eq_true rfl) (fun p e s m below meth c ls C hr hml hlk hnm hS hl => ?_)
  have hl : lv_has ls 3 [(0, .ref (T)), (1, .ref (ad x))] := hl
  refine lv_aload_n C.1 C.2.1 dJ21_rotateRight_0 rfl (lv_at hl 1 rfl) ?_
  refine lv_ifnull C.1 C.2.1 dJ21_rotateRight_1 ?_
  refine lv_aload_n C.1 C.2.1 dJ21_rotateRight_4 rfl (lv_at hl 1 rfl) ?_
  refine gf_J21_111_16 C hS fx rfl dJ21_rotateRight_5 ?_
  refine lv_astore_n (lv' := [(2, .ref (ad y)), (0, .ref (T)), (1, .ref (ad x))]) C.1 C.2.1 dJ21_rotateRight_8 rfl hl (by decide) rfl (fun ls hl => ?_)
  refine lv_aload_n C.1 C.2.1 dJ21_rotateRight_9 rfl (lv_at hl 2 rfl) ?_
  refine lv_aload_n C.1 C.2.1 dJ21_rotateRight_10 rfl (lv_at hl 0 rfl) ?_
  refine gf_J21_114_16 C hS fy rfl dJ21_rotateRight_11 ?_
  refine gp_J21_111_16 C hS fx rfl rfl (Nat.le_of_ble_eq_true rfl) dJ21_rotateRight_14 (fun H locs hS => ?_)
  obtain ⟨σ_1, eσ_1⟩ : ∃ z, z = va_up σ (ad x) (some (oO 16 [.ref (kr x), .ref (X.2.2.2 1), .null, va_rf ((rg x).map ad), .ref (ad q), .int (iI (co x))])) := ⟨_, rfl⟩
  have hS : tl_S X s σ_1 H locs := by rw [eσ_1]; exact hS
  have he_2 := up_kp eσ_1 (tl_ne fT fx (by decide)) fT
  have he_3 : σ_1 (ad x) = some (oO 16 [.ref (kr x), .ref (X.2.2.2 1), .null, va_rf ((rg x).map ad), .ref (ad q), .int (iI (co x))]) := by rw [eσ_1]; exact up_s
  have he_4 := up_kp eσ_1 (Ne.symm nxy) fy
  have he_5 := up_kp eσ_1 nqx fq
  refine lv_aload_n C.1 C.2.1 dJ21_rotateRight_17 rfl (lv_at hl 0 rfl) ?_
  refine gf_J21_114_16 C hS he_4 rfl dJ21_rotateRight_18 ?_
  refine lv_ifnullN (tgt := 32) C.1 C.2.1 dJ21_rotateRight_21 (by decide) ?_
  refine lv_aload_n C.1 C.2.1 dJ21_rotateRight_32 rfl (lv_at hl 0 rfl) ?_
  refine lv_aload_n C.1 C.2.1 dJ21_rotateRight_33 rfl (lv_at hl 2 rfl) ?_
  refine gf_J21_124_16 C hS he_3 rfl dJ21_rotateRight_34 ?_
  refine gp_J21_124_16 C hS he_4 rfl rfl (Nat.le_of_ble_eq_true rfl) dJ21_rotateRight_37 (fun H locs hS => ?_)
  obtain ⟨σ_6, eσ_6⟩ : ∃ z, z = va_up σ_1 (ad y) (some (oO 16 [.ref (kr y), .ref (X.2.2.2 1), va_rf ((lf y).map ad), .null, .ref (ad q), .int (iI (co y))])) := ⟨_, rfl⟩
  have hS : tl_S X s σ_6 H locs := by rw [eσ_6]; exact hS
  have he_7 := up_kp eσ_6 (tl_ne he_2 he_4 (by decide)) he_2
  have he_8 := up_kp eσ_6 nxy he_3
  have he_9 : σ_6 (ad y) = some (oO 16 [.ref (kr y), .ref (X.2.2.2 1), va_rf ((lf y).map ad), .null, .ref (ad q), .int (iI (co y))]) := by rw [eσ_6]; exact up_s
  have he_10 := up_kp eσ_6 nqy he_5
  refine lv_aload_n C.1 C.2.1 dJ21_rotateRight_40 rfl (lv_at hl 2 rfl) ?_
  refine gf_J21_124_16 C hS he_8 rfl dJ21_rotateRight_41 ?_
  refine lv_ifnonnull (tgt := 55) C.1 C.2.1 dJ21_rotateRight_44 (by decide) ?_
  refine lv_aload_n C.1 C.2.1 dJ21_rotateRight_55 rfl (lv_at hl 2 rfl) ?_
  refine gf_J21_124_16 C hS he_8 rfl dJ21_rotateRight_56 ?_
  refine gf_J21_114_16 C hS he_10 rfl dJ21_rotateRight_59 ?_
  refine lv_aload_n C.1 C.2.1 dJ21_rotateRight_62 rfl (lv_at hl 2 rfl) ?_
  refine lv_acmp_ne (tgt := 77) (rx := (some (ad x))) (ry := (some (ad x))) C.1 C.2.1 dJ21_rotateRight_63 (by decide) (fun hc_11 => ?_) (fun hc_11 => ?_)
  · skip
    exact absurd rfl hc_11
  · skip
    refine lv_aload_n C.1 C.2.1 dJ21_rotateRight_66 rfl (lv_at hl 2 rfl) ?_
    refine gf_J21_124_16 C hS he_8 rfl dJ21_rotateRight_67 ?_
    refine lv_aload_n C.1 C.2.1 dJ21_rotateRight_70 rfl (lv_at hl 0 rfl) ?_
    refine gp_J21_114_16 C hS he_10 rfl rfl (Nat.le_of_ble_eq_true rfl) dJ21_rotateRight_71 (fun H locs hS => ?_)
    obtain ⟨σ_12, eσ_12⟩ : ∃ z, z = va_up σ_6 (ad q) (some (oO 16 [.ref (kr q), .ref (X.2.2.2 1), va_rf ((lf q).map ad), .ref (ad y), va_rf ((pa q).map ad), .int (iI (co q))])) := ⟨_, rfl⟩
    have hS : tl_S X s σ_12 H locs := by rw [eσ_12]; exact hS
    have he_13 := up_kp eσ_12 (tl_ne he_7 he_10 (by decide)) he_7
    have he_14 := up_kp eσ_12 (Ne.symm nqx) he_8
    have he_15 := up_kp eσ_12 (Ne.symm nqy) he_9
    have he_16 : σ_12 (ad q) = some (oO 16 [.ref (kr q), .ref (X.2.2.2 1), va_rf ((lf q).map ad), .ref (ad y), va_rf ((pa q).map ad), .int (iI (co q))]) := by rw [eσ_12]; exact up_s
    refine lv_goto (tgt := 85) C.1 C.2.1 dJ21_rotateRight_74 (by decide) ?_
    refine lv_aload_n C.1 C.2.1 dJ21_rotateRight_85 rfl (lv_at hl 0 rfl) ?_
    refine lv_aload_n C.1 C.2.1 dJ21_rotateRight_86 rfl (lv_at hl 2 rfl) ?_
    refine gp_J21_114_16 C hS he_15 rfl rfl (Nat.le_of_ble_eq_true rfl) dJ21_rotateRight_87 (fun H locs hS => ?_)
    obtain ⟨σ_17, eσ_17⟩ : ∃ z, z = va_up σ_12 (ad y) (some (oO 16 [.ref (kr y), .ref (X.2.2.2 1), va_rf ((lf y).map ad), .ref (ad x), .ref (ad q), .int (iI (co y))])) := ⟨_, rfl⟩
    have hS : tl_S X s σ_17 H locs := by rw [eσ_17]; exact hS
    have he_18 := up_kp eσ_17 (tl_ne he_13 he_15 (by decide)) he_13
    have he_19 := up_kp eσ_17 nxy he_14
    have he_20 : σ_17 (ad y) = some (oO 16 [.ref (kr y), .ref (X.2.2.2 1), va_rf ((lf y).map ad), .ref (ad x), .ref (ad q), .int (iI (co y))]) := by rw [eσ_17]; exact up_s
    have he_21 := up_kp eσ_17 nqy he_16
    refine lv_aload_n C.1 C.2.1 dJ21_rotateRight_90 rfl (lv_at hl 2 rfl) ?_
    refine lv_aload_n C.1 C.2.1 dJ21_rotateRight_91 rfl (lv_at hl 0 rfl) ?_
    refine gp_J21_124_16 C hS he_19 rfl rfl (Nat.le_of_ble_eq_true rfl) dJ21_rotateRight_92 (fun H locs hS => ?_)
    obtain ⟨σ_22, eσ_22⟩ : ∃ z, z = va_up σ_17 (ad x) (some (oO 16 [.ref (kr x), .ref (X.2.2.2 1), .null, va_rf ((rg x).map ad), .ref (ad y), .int (iI (co x))])) := ⟨_, rfl⟩
    have hS : tl_S X s σ_22 H locs := by rw [eσ_22]; exact hS
    have he_23 := up_kp eσ_22 (tl_ne he_18 he_19 (by decide)) he_18
    have he_24 : σ_22 (ad x) = some (oO 16 [.ref (kr x), .ref (X.2.2.2 1), .null, va_rf ((rg x).map ad), .ref (ad y), .int (iI (co x))]) := by rw [eσ_22]; exact up_s
    have he_25 := up_kp eσ_22 (Ne.symm nxy) he_20
    have he_26 := up_kp eσ_22 nqx he_21
    have hEnd : ∀ z, S z → σ_22 (ad z) = some (cE (kr z) (X.2.2.2 1) (((rlR rg lf x y) z).map ad) (((rlL rg x y) z).map ad) (((rlP rg pa x y) z).map ad) (co z)) := by
      intro z hz
      rcases rr_at hB hx hy z hz with ⟨rfl, w1, w2, w3⟩ | ⟨rfl, w1, w2, w3⟩ | ⟨w0, w1, w2, w3⟩ | ⟨w0, w4, w1, w2, w3⟩ | ⟨w0, w4, w5, w1, w2, w3⟩ | ⟨w4, w5, w6, w0, w1, w2, w3⟩
      · rw [w1, w2, w3, hm]; exact he_24
      · rw [w1, w2, w3, hp]; exact he_25
      · rw [hm] at w0; cases w0
      · rw [hp] at w0; cases w0; rw [w1, w2, w3]; exact he_26
      · rw [hp] at w0; cases w0; exact absurd hq w5
      · (have gT : ad z ≠ T := tl_ne (hE z hz).1 fT (by decide)); (have gx : ad z ≠ ad x := fun u => w4 (hI _ _ hz hx u)); (have gy : ad z ≠ ad y := fun u => w5 (hI _ _ hz sy u)); (have gq : ad z ≠ ad q := fun u => w0 (by rw [hp, hI _ _ hz sq u])); rw [w1, w2, w3, eσ_22, up_n gx, eσ_17, up_n gy, eσ_12, up_n gq, eσ_6, up_n gy, eσ_1, up_n gx]; exact (hE z hz).1
    have hFr : ∀ b e, σ b = some e → nct e → σ_22 b = some e := by
      intro b e hb hn
      have gT : b ≠ T := nct_ne hb hn fT (Or.inl rfl)
      have gx : b ≠ ad x := nct_ne hb hn fx (Or.inr rfl)
      have gy : b ≠ ad y := nct_ne hb hn fy (Or.inr rfl)
      have gq : b ≠ ad q := nct_ne hb hn fq (Or.inr rfl)
      rw [eσ_22, up_n gx, eσ_17, up_n gy, eσ_12, up_n gq, eσ_6, up_n gy, eσ_1, up_n gx]; exact hb
    exact r_v C hr hlk hS ⟨⟨by unfold rlT; rw [if_neg hrt]; exact he_23, fun z hz => ⟨hEnd z hz, hFr _ _ (hE z hz).2.1 (nct_Z z), (hE z hz).2.2⟩, hI⟩, hS.fix, hFr⟩ dJ21_rotateRight_95

set_option maxHeartbeats 4000000 in
theorem m_rotR02 (l : Launch) (X : tl_X) (σ : tl_H) (T : Nat) (n md : Int) (ks : Option Nat) (N : Int) (S : Int → Prop) (rt : Option Int) (lf rg pa : Int → Option Int) (lo hi co : Int → Int) (ad kr : Int → Nat) (hT : TM X σ T n md ks S rt lf rg pa co ad kr) (hB : BT N S rt lf rg pa lo hi) (x y : Int) (hx : S x) (hy : lf x = some y) (hm : rg y = none) (q : Int) (hp : pa x = some q) (hq : lf q = some x) : tl_Met l X yJ21_rotateRight cJ21_rotateRight 3 ((Option.none : Option FieldType)) 1 (0) (0) [.ref (T), .ref (ad x)] σ (tl_Qv X (fun σ' => TM X σ' T n md ks S (rlT rt x y) (rlR rg lf x y) (rlL rg x y) (rlP rg pa x y) co ad kr ∧ TF X σ σ')) := by
  obtain ⟨hT0, hE, hI⟩ := hT
  obtain ⟨sy, py, ey1, ey2⟩ := (hB.2.2.2.1 x hx).1 y hy
  have bx := hB.1 x hx
  have by_ := hB.1 y sy
  have hxy : x ≠ y := by omega
  have nxy : ad x ≠ ad y := fun z => hxy (hI _ _ hx sy z)
  have sq := ((hB.2.2.2.2.2.1 x hx).1 q hp).1
  obtain ⟨-, -, eq1, eq2⟩ := (hB.2.2.2.1 q sq).1 x hq
  have bq := hB.1 q sq
  have nqx : ad q ≠ ad x := fun z => by have := hI _ _ sq hx z; omega
  have nqy : ad q ≠ ad y := fun z => by have := hI _ _ sq sy z; omega
  have hrt : rt ≠ some x := fun z => by have := (hB.2.2.2.2.2.2.1 x z).2.1; rw [hp] at this; cases this
  have hqn : rg q ≠ some x := fun z => by obtain ⟨-, -, u1, u2⟩ := (hB.2.2.2.2.1 q sq).1 x z; omega
  have hqa : (rg q).map ad ≠ some (ad x) := fun z => by obtain ⟨u, u1, u2⟩ := Option.map_eq_some_iff.mp z; exact hqn (by rw [u1, hI _ _ ((hB.2.2.2.2.1 q sq).1 u u1).1 hx u2])
  have fT : σ (T) = some (oO 13 [.null, .null, .null, va_rf (rt.map ad), .int (iI (n)), .int (iI (md)), .null, va_rf (ks), .null]) := by exact hT0
  have fx : σ (ad x) = some (oO 16 [.ref (kr x), .ref (X.2.2.2 1), .ref (ad y), va_rf ((rg x).map ad), .ref (ad q), .int (iI (co x))]) := by rw [(hE x hx).1, hy, hp]; rfl
  have fy : σ (ad y) = some (oO 16 [.ref (kr y), .ref (X.2.2.2 1), va_rf ((lf y).map ad), .null, .ref (ad x), .int (iI (co y))]) := by rw [(hE y sy).1, hm, py]; rfl
  have fq : σ (ad q) = some (oO 16 [.ref (kr q), .ref (X.2.2.2 1), .ref (ad x), va_rf ((rg q).map ad), va_rf ((pa q).map ad), .int (iI (co q))]) := by rw [(hE q sq).1, hq]; rfl
  refine tl_start (by decide) (Nat.le_of_ble_eq_true rfl) (fun p e s m below meth c ls C hr hml hlk hnm hS hl => ?_)
  have hl : lv_has ls 3 [(0, .ref (T)), (1, .ref (ad x))] := hl
  refine lv_aload_n C.1 C.2.1 dJ21_rotateRight_0 rfl (lv_at hl 1 rfl) ?_
  refine lv_ifnull C.1 C.2.1 dJ21_rotateRight_1 ?_
  refine lv_aload_n C.1 C.2.1 dJ21_rotateRight_4 rfl (lv_at hl 1 rfl) ?_
  refine gf_J21_111_16 C hS fx rfl dJ21_rotateRight_5 ?_
  refine lv_astore_n (lv' := [(2, .ref (ad y)), (0, .ref (T)), (1, .ref (ad x))]) C.1 C.2.1 dJ21_rotateRight_8 rfl hl (by decide) rfl (fun ls hl => ?_)
  refine lv_aload_n C.1 C.2.1 dJ21_rotateRight_9 rfl (lv_at hl 2 rfl) ?_
  refine lv_aload_n C.1 C.2.1 dJ21_rotateRight_10 rfl (lv_at hl 0 rfl) ?_
  refine gf_J21_114_16 C hS fy rfl dJ21_rotateRight_11 ?_
  refine gp_J21_111_16 C hS fx rfl rfl (Nat.le_of_ble_eq_true rfl) dJ21_rotateRight_14 (fun H locs hS => ?_)
  obtain ⟨σ_1, eσ_1⟩ : ∃ z, z = va_up σ (ad x) (some (oO 16 [.ref (kr x), .ref (X.2.2.2 1), .null, va_rf ((rg x).map ad), .ref (ad q), .int (iI (co x))])) := ⟨_, rfl⟩
  have hS : tl_S X s σ_1 H locs := by rw [eσ_1]; exact hS
  have he_2 := up_kp eσ_1 (tl_ne fT fx (by decide)) fT
  have he_3 : σ_1 (ad x) = some (oO 16 [.ref (kr x), .ref (X.2.2.2 1), .null, va_rf ((rg x).map ad), .ref (ad q), .int (iI (co x))]) := by rw [eσ_1]; exact up_s
  have he_4 := up_kp eσ_1 (Ne.symm nxy) fy
  have he_5 := up_kp eσ_1 nqx fq
  refine lv_aload_n C.1 C.2.1 dJ21_rotateRight_17 rfl (lv_at hl 0 rfl) ?_
  refine gf_J21_114_16 C hS he_4 rfl dJ21_rotateRight_18 ?_
  refine lv_ifnullN (tgt := 32) C.1 C.2.1 dJ21_rotateRight_21 (by decide) ?_
  refine lv_aload_n C.1 C.2.1 dJ21_rotateRight_32 rfl (lv_at hl 0 rfl) ?_
  refine lv_aload_n C.1 C.2.1 dJ21_rotateRight_33 rfl (lv_at hl 2 rfl) ?_
  refine gf_J21_124_16 C hS he_3 rfl dJ21_rotateRight_34 ?_
  refine gp_J21_124_16 C hS he_4 rfl rfl (Nat.le_of_ble_eq_true rfl) dJ21_rotateRight_37 (fun H locs hS => ?_)
  obtain ⟨σ_6, eσ_6⟩ : ∃ z, z = va_up σ_1 (ad y) (some (oO 16 [.ref (kr y), .ref (X.2.2.2 1), va_rf ((lf y).map ad), .null, .ref (ad q), .int (iI (co y))])) := ⟨_, rfl⟩
  have hS : tl_S X s σ_6 H locs := by rw [eσ_6]; exact hS
  have he_7 := up_kp eσ_6 (tl_ne he_2 he_4 (by decide)) he_2
  have he_8 := up_kp eσ_6 nxy he_3
  have he_9 : σ_6 (ad y) = some (oO 16 [.ref (kr y), .ref (X.2.2.2 1), va_rf ((lf y).map ad), .null, .ref (ad q), .int (iI (co y))]) := by rw [eσ_6]; exact up_s
  have he_10 := up_kp eσ_6 nqy he_5
  refine lv_aload_n C.1 C.2.1 dJ21_rotateRight_40 rfl (lv_at hl 2 rfl) ?_
  refine gf_J21_124_16 C hS he_8 rfl dJ21_rotateRight_41 ?_
  refine lv_ifnonnull (tgt := 55) C.1 C.2.1 dJ21_rotateRight_44 (by decide) ?_
  refine lv_aload_n C.1 C.2.1 dJ21_rotateRight_55 rfl (lv_at hl 2 rfl) ?_
  refine gf_J21_124_16 C hS he_8 rfl dJ21_rotateRight_56 ?_
  refine gf_J21_114_16 C hS he_10 rfl dJ21_rotateRight_59 ?_
  refine lv_aload_n C.1 C.2.1 dJ21_rotateRight_62 rfl (lv_at hl 2 rfl) ?_
  refine lv_acmp_ne (tgt := 77) (rx := ((rg q).map ad)) (ry := (some (ad x))) C.1 C.2.1 dJ21_rotateRight_63 (by decide) (fun hc_11 => ?_) (fun hc_11 => ?_)
  · skip
    refine lv_aload_n C.1 C.2.1 dJ21_rotateRight_77 rfl (lv_at hl 2 rfl) ?_
    refine gf_J21_124_16 C hS he_8 rfl dJ21_rotateRight_78 ?_
    refine lv_aload_n C.1 C.2.1 dJ21_rotateRight_81 rfl (lv_at hl 0 rfl) ?_
    refine gp_J21_111_16 C hS he_10 rfl rfl (Nat.le_of_ble_eq_true rfl) dJ21_rotateRight_82 (fun H locs hS => ?_)
    obtain ⟨σ_12, eσ_12⟩ : ∃ z, z = va_up σ_6 (ad q) (some (oO 16 [.ref (kr q), .ref (X.2.2.2 1), .ref (ad y), va_rf ((rg q).map ad), va_rf ((pa q).map ad), .int (iI (co q))])) := ⟨_, rfl⟩
    have hS : tl_S X s σ_12 H locs := by rw [eσ_12]; exact hS
    have he_13 := up_kp eσ_12 (tl_ne he_7 he_10 (by decide)) he_7
    have he_14 := up_kp eσ_12 (Ne.symm nqx) he_8
    have he_15 := up_kp eσ_12 (Ne.symm nqy) he_9
    have he_16 : σ_12 (ad q) = some (oO 16 [.ref (kr q), .ref (X.2.2.2 1), .ref (ad y), va_rf ((rg q).map ad), va_rf ((pa q).map ad), .int (iI (co q))]) := by rw [eσ_12]; exact up_s
    refine lv_aload_n C.1 C.2.1 dJ21_rotateRight_85 rfl (lv_at hl 0 rfl) ?_
    refine lv_aload_n C.1 C.2.1 dJ21_rotateRight_86 rfl (lv_at hl 2 rfl) ?_
    refine gp_J21_114_16 C hS he_15 rfl rfl (Nat.le_of_ble_eq_true rfl) dJ21_rotateRight_87 (fun H locs hS => ?_)
    obtain ⟨σ_17, eσ_17⟩ : ∃ z, z = va_up σ_12 (ad y) (some (oO 16 [.ref (kr y), .ref (X.2.2.2 1), va_rf ((lf y).map ad), .ref (ad x), .ref (ad q), .int (iI (co y))])) := ⟨_, rfl⟩
    have hS : tl_S X s σ_17 H locs := by rw [eσ_17]; exact hS
    have he_18 := up_kp eσ_17 (tl_ne he_13 he_15 (by decide)) he_13
    have he_19 := up_kp eσ_17 nxy he_14
    have he_20 : σ_17 (ad y) = some (oO 16 [.ref (kr y), .ref (X.2.2.2 1), va_rf ((lf y).map ad), .ref (ad x), .ref (ad q), .int (iI (co y))]) := by rw [eσ_17]; exact up_s
    have he_21 := up_kp eσ_17 nqy he_16
    refine lv_aload_n C.1 C.2.1 dJ21_rotateRight_90 rfl (lv_at hl 2 rfl) ?_
    refine lv_aload_n C.1 C.2.1 dJ21_rotateRight_91 rfl (lv_at hl 0 rfl) ?_
    refine gp_J21_124_16 C hS he_19 rfl rfl (Nat.le_of_ble_eq_true rfl) dJ21_rotateRight_92 (fun H locs hS => ?_)
    obtain ⟨σ_22, eσ_22⟩ : ∃ z, z = va_up σ_17 (ad x) (some (oO 16 [.ref (kr x), .ref (X.2.2.2 1), .null, va_rf ((rg x).map ad), .ref (ad y), .int (iI (co x))])) := ⟨_, rfl⟩
    have hS : tl_S X s σ_22 H locs := by rw [eσ_22]; exact hS
    have he_23 := up_kp eσ_22 (tl_ne he_18 he_19 (by decide)) he_18
    have he_24 : σ_22 (ad x) = some (oO 16 [.ref (kr x), .ref (X.2.2.2 1), .null, va_rf ((rg x).map ad), .ref (ad y), .int (iI (co x))]) := by rw [eσ_22]; exact up_s
    have he_25 := up_kp eσ_22 (Ne.symm nxy) he_20
    have he_26 := up_kp eσ_22 nqx he_21
    have hEnd : ∀ z, S z → σ_22 (ad z) = some (cE (kr z) (X.2.2.2 1) (((rlR rg lf x y) z).map ad) (((rlL rg x y) z).map ad) (((rlP rg pa x y) z).map ad) (co z)) := by
      intro z hz
      rcases rr_at hB hx hy z hz with ⟨rfl, w1, w2, w3⟩ | ⟨rfl, w1, w2, w3⟩ | ⟨w0, w1, w2, w3⟩ | ⟨w0, w4, w1, w2, w3⟩ | ⟨w0, w4, w5, w1, w2, w3⟩ | ⟨w4, w5, w6, w0, w1, w2, w3⟩
      · rw [w1, w2, w3, hm]; exact he_24
      · rw [w1, w2, w3, hp]; exact he_25
      · rw [hm] at w0; cases w0
      · rw [hp] at w0; cases w0; exact absurd w4 hqn
      · rw [hp] at w0; cases w0; rw [w1, w2, w3]; exact he_26
      · (have gT : ad z ≠ T := tl_ne (hE z hz).1 fT (by decide)); (have gx : ad z ≠ ad x := fun u => w4 (hI _ _ hz hx u)); (have gy : ad z ≠ ad y := fun u => w5 (hI _ _ hz sy u)); (have gq : ad z ≠ ad q := fun u => w0 (by rw [hp, hI _ _ hz sq u])); rw [w1, w2, w3, eσ_22, up_n gx, eσ_17, up_n gy, eσ_12, up_n gq, eσ_6, up_n gy, eσ_1, up_n gx]; exact (hE z hz).1
    have hFr : ∀ b e, σ b = some e → nct e → σ_22 b = some e := by
      intro b e hb hn
      have gT : b ≠ T := nct_ne hb hn fT (Or.inl rfl)
      have gx : b ≠ ad x := nct_ne hb hn fx (Or.inr rfl)
      have gy : b ≠ ad y := nct_ne hb hn fy (Or.inr rfl)
      have gq : b ≠ ad q := nct_ne hb hn fq (Or.inr rfl)
      rw [eσ_22, up_n gx, eσ_17, up_n gy, eσ_12, up_n gq, eσ_6, up_n gy, eσ_1, up_n gx]; exact hb
    exact r_v C hr hlk hS ⟨⟨by unfold rlT; rw [if_neg hrt]; exact he_23, fun z hz => ⟨hEnd z hz, hFr _ _ (hE z hz).2.1 (nct_Z z), (hE z hz).2.2⟩, hI⟩, hS.fix, hFr⟩ dJ21_rotateRight_95
  · skip
    exact absurd hc_11 hqa

set_option maxHeartbeats 4000000 in
theorem m_rotR10 (l : Launch) (X : tl_X) (σ : tl_H) (T : Nat) (n md : Int) (ks : Option Nat) (N : Int) (S : Int → Prop) (rt : Option Int) (lf rg pa : Int → Option Int) (lo hi co : Int → Int) (ad kr : Int → Nat) (hT : TM X σ T n md ks S rt lf rg pa co ad kr) (hB : BT N S rt lf rg pa lo hi) (x y : Int) (hx : S x) (hy : lf x = some y) (mm : Int) (hm : rg y = some mm) (hp : pa x = none) : tl_Met l X yJ21_rotateRight cJ21_rotateRight 3 ((Option.none : Option FieldType)) 1 (0) (0) [.ref (T), .ref (ad x)] σ (tl_Qv X (fun σ' => TM X σ' T n md ks S (rlT rt x y) (rlR rg lf x y) (rlL rg x y) (rlP rg pa x y) co ad kr ∧ TF X σ σ')) := by
  obtain ⟨hT0, hE, hI⟩ := hT
  obtain ⟨sy, py, ey1, ey2⟩ := (hB.2.2.2.1 x hx).1 y hy
  have bx := hB.1 x hx
  have by_ := hB.1 y sy
  have hxy : x ≠ y := by omega
  have nxy : ad x ≠ ad y := fun z => hxy (hI _ _ hx sy z)
  obtain ⟨sm, pm, em1, em2⟩ := (hB.2.2.2.2.1 y sy).1 mm hm
  have bm := hB.1 mm sm
  have nmx : ad mm ≠ ad x := fun z => by have := hI _ _ sm hx z; omega
  have nmy : ad mm ≠ ad y := fun z => by have := hI _ _ sm sy z; omega
  have hrt : rt = some x := (hB.2.2.2.2.2.1 x hx).2 hp
  have fT : σ (T) = some (oO 13 [.null, .null, .null, .ref (ad x), .int (iI (n)), .int (iI (md)), .null, va_rf (ks), .null]) := by rw [hT0, hrt]; rfl
  have fx : σ (ad x) = some (oO 16 [.ref (kr x), .ref (X.2.2.2 1), .ref (ad y), va_rf ((rg x).map ad), .null, .int (iI (co x))]) := by rw [(hE x hx).1, hy, hp]; rfl
  have fy : σ (ad y) = some (oO 16 [.ref (kr y), .ref (X.2.2.2 1), va_rf ((lf y).map ad), .ref (ad mm), .ref (ad x), .int (iI (co y))]) := by rw [(hE y sy).1, hm, py]; rfl
  have fm : σ (ad mm) = some (oO 16 [.ref (kr mm), .ref (X.2.2.2 1), va_rf ((lf mm).map ad), va_rf ((rg mm).map ad), .ref (ad y), .int (iI (co mm))]) := by rw [(hE mm sm).1, pm]; rfl
  refine tl_start (by decide) (Nat.le_of_ble_eq_true rfl) (fun p e s m below meth c ls C hr hml hlk hnm hS hl => ?_)
  have hl : lv_has ls 3 [(0, .ref (T)), (1, .ref (ad x))] := hl
  refine lv_aload_n C.1 C.2.1 dJ21_rotateRight_0 rfl (lv_at hl 1 rfl) ?_
  refine lv_ifnull C.1 C.2.1 dJ21_rotateRight_1 ?_
  refine lv_aload_n C.1 C.2.1 dJ21_rotateRight_4 rfl (lv_at hl 1 rfl) ?_
  refine gf_J21_111_16 C hS fx rfl dJ21_rotateRight_5 ?_
  refine lv_astore_n (lv' := [(2, .ref (ad y)), (0, .ref (T)), (1, .ref (ad x))]) C.1 C.2.1 dJ21_rotateRight_8 rfl hl (by decide) rfl (fun ls hl => ?_)
  refine lv_aload_n C.1 C.2.1 dJ21_rotateRight_9 rfl (lv_at hl 2 rfl) ?_
  refine lv_aload_n C.1 C.2.1 dJ21_rotateRight_10 rfl (lv_at hl 0 rfl) ?_
  refine gf_J21_114_16 C hS fy rfl dJ21_rotateRight_11 ?_
  refine gp_J21_111_16 C hS fx rfl rfl (Nat.le_of_ble_eq_true rfl) dJ21_rotateRight_14 (fun H locs hS => ?_)
  obtain ⟨σ_1, eσ_1⟩ : ∃ z, z = va_up σ (ad x) (some (oO 16 [.ref (kr x), .ref (X.2.2.2 1), .ref (ad mm), va_rf ((rg x).map ad), .null, .int (iI (co x))])) := ⟨_, rfl⟩
  have hS : tl_S X s σ_1 H locs := by rw [eσ_1]; exact hS
  have he_2 := up_kp eσ_1 (tl_ne fT fx (by decide)) fT
  have he_3 : σ_1 (ad x) = some (oO 16 [.ref (kr x), .ref (X.2.2.2 1), .ref (ad mm), va_rf ((rg x).map ad), .null, .int (iI (co x))]) := by rw [eσ_1]; exact up_s
  have he_4 := up_kp eσ_1 (Ne.symm nxy) fy
  have he_5 := up_kp eσ_1 nmx fm
  refine lv_aload_n C.1 C.2.1 dJ21_rotateRight_17 rfl (lv_at hl 0 rfl) ?_
  refine gf_J21_114_16 C hS he_4 rfl dJ21_rotateRight_18 ?_
  refine lv_ifnull C.1 C.2.1 dJ21_rotateRight_21 ?_
  refine lv_aload_n C.1 C.2.1 dJ21_rotateRight_24 rfl (lv_at hl 0 rfl) ?_
  refine gf_J21_114_16 C hS he_4 rfl dJ21_rotateRight_25 ?_
  refine lv_aload_n C.1 C.2.1 dJ21_rotateRight_28 rfl (lv_at hl 2 rfl) ?_
  refine gp_J21_124_16 C hS he_5 rfl rfl (Nat.le_of_ble_eq_true rfl) dJ21_rotateRight_29 (fun H locs hS => ?_)
  obtain ⟨σ_6, eσ_6⟩ : ∃ z, z = va_up σ_1 (ad mm) (some (oO 16 [.ref (kr mm), .ref (X.2.2.2 1), va_rf ((lf mm).map ad), va_rf ((rg mm).map ad), .ref (ad x), .int (iI (co mm))])) := ⟨_, rfl⟩
  have hS : tl_S X s σ_6 H locs := by rw [eσ_6]; exact hS
  have he_7 := up_kp eσ_6 (tl_ne he_2 he_5 (by decide)) he_2
  have he_8 := up_kp eσ_6 (Ne.symm nmx) he_3
  have he_9 := up_kp eσ_6 (Ne.symm nmy) he_4
  have he_10 : σ_6 (ad mm) = some (oO 16 [.ref (kr mm), .ref (X.2.2.2 1), va_rf ((lf mm).map ad), va_rf ((rg mm).map ad), .ref (ad x), .int (iI (co mm))]) := by rw [eσ_6]; exact up_s
  refine lv_aload_n C.1 C.2.1 dJ21_rotateRight_32 rfl (lv_at hl 0 rfl) ?_
  refine lv_aload_n C.1 C.2.1 dJ21_rotateRight_33 rfl (lv_at hl 2 rfl) ?_
  refine gf_J21_124_16 C hS he_8 rfl dJ21_rotateRight_34 ?_
  refine gp_J21_124_16 C hS he_9 rfl rfl (Nat.le_of_ble_eq_true rfl) dJ21_rotateRight_37 (fun H locs hS => ?_)
  obtain ⟨σ_11, eσ_11⟩ : ∃ z, z = va_up σ_6 (ad y) (some (oO 16 [.ref (kr y), .ref (X.2.2.2 1), va_rf ((lf y).map ad), .ref (ad mm), .null, .int (iI (co y))])) := ⟨_, rfl⟩
  have hS : tl_S X s σ_11 H locs := by rw [eσ_11]; exact hS
  have he_12 := up_kp eσ_11 (tl_ne he_7 he_9 (by decide)) he_7
  have he_13 := up_kp eσ_11 nxy he_8
  have he_14 : σ_11 (ad y) = some (oO 16 [.ref (kr y), .ref (X.2.2.2 1), va_rf ((lf y).map ad), .ref (ad mm), .null, .int (iI (co y))]) := by rw [eσ_11]; exact up_s
  have he_15 := up_kp eσ_11 nmy he_10
  refine lv_aload_n C.1 C.2.1 dJ21_rotateRight_40 rfl (lv_at hl 2 rfl) ?_
  refine gf_J21_124_16 C hS he_13 rfl dJ21_rotateRight_41 ?_
  refine lv_ifnonnullN C.1 C.2.1 dJ21_rotateRight_44 ?_
  refine lv_aload_n C.1 C.2.1 dJ21_rotateRight_47 rfl (lv_at hl 1 rfl) ?_
  refine lv_aload_n C.1 C.2.1 dJ21_rotateRight_48 rfl (lv_at hl 0 rfl) ?_
  refine gp_J21_101_13 C hS he_12 rfl rfl (Nat.le_of_ble_eq_true rfl) dJ21_rotateRight_49 (fun H locs hS => ?_)
  obtain ⟨σ_16, eσ_16⟩ : ∃ z, z = va_up σ_11 (T) (some (oO 13 [.null, .null, .null, .ref (ad y), .int (iI (n)), .int (iI (md)), .null, va_rf (ks), .null])) := ⟨_, rfl⟩
  have hS : tl_S X s σ_16 H locs := by rw [eσ_16]; exact hS
  have he_17 : σ_16 (T) = some (oO 13 [.null, .null, .null, .ref (ad y), .int (iI (n)), .int (iI (md)), .null, va_rf (ks), .null]) := by rw [eσ_16]; exact up_s
  have he_18 := up_kp eσ_16 (tl_ne he_13 he_12 (by decide)) he_13
  have he_19 := up_kp eσ_16 (tl_ne he_14 he_12 (by decide)) he_14
  have he_20 := up_kp eσ_16 (tl_ne he_15 he_12 (by decide)) he_15
  refine lv_goto (tgt := 85) C.1 C.2.1 dJ21_rotateRight_52 (by decide) ?_
  refine lv_aload_n C.1 C.2.1 dJ21_rotateRight_85 rfl (lv_at hl 0 rfl) ?_
  refine lv_aload_n C.1 C.2.1 dJ21_rotateRight_86 rfl (lv_at hl 2 rfl) ?_
  refine gp_J21_114_16 C hS he_19 rfl rfl (Nat.le_of_ble_eq_true rfl) dJ21_rotateRight_87 (fun H locs hS => ?_)
  obtain ⟨σ_21, eσ_21⟩ : ∃ z, z = va_up σ_16 (ad y) (some (oO 16 [.ref (kr y), .ref (X.2.2.2 1), va_rf ((lf y).map ad), .ref (ad x), .null, .int (iI (co y))])) := ⟨_, rfl⟩
  have hS : tl_S X s σ_21 H locs := by rw [eσ_21]; exact hS
  have he_22 := up_kp eσ_21 (tl_ne he_17 he_19 (by decide)) he_17
  have he_23 := up_kp eσ_21 nxy he_18
  have he_24 : σ_21 (ad y) = some (oO 16 [.ref (kr y), .ref (X.2.2.2 1), va_rf ((lf y).map ad), .ref (ad x), .null, .int (iI (co y))]) := by rw [eσ_21]; exact up_s
  have he_25 := up_kp eσ_21 nmy he_20
  refine lv_aload_n C.1 C.2.1 dJ21_rotateRight_90 rfl (lv_at hl 2 rfl) ?_
  refine lv_aload_n C.1 C.2.1 dJ21_rotateRight_91 rfl (lv_at hl 0 rfl) ?_
  refine gp_J21_124_16 C hS he_23 rfl rfl (Nat.le_of_ble_eq_true rfl) dJ21_rotateRight_92 (fun H locs hS => ?_)
  obtain ⟨σ_26, eσ_26⟩ : ∃ z, z = va_up σ_21 (ad x) (some (oO 16 [.ref (kr x), .ref (X.2.2.2 1), .ref (ad mm), va_rf ((rg x).map ad), .ref (ad y), .int (iI (co x))])) := ⟨_, rfl⟩
  have hS : tl_S X s σ_26 H locs := by rw [eσ_26]; exact hS
  have he_27 := up_kp eσ_26 (tl_ne he_22 he_23 (by decide)) he_22
  have he_28 : σ_26 (ad x) = some (oO 16 [.ref (kr x), .ref (X.2.2.2 1), .ref (ad mm), va_rf ((rg x).map ad), .ref (ad y), .int (iI (co x))]) := by rw [eσ_26]; exact up_s
  have he_29 := up_kp eσ_26 (Ne.symm nxy) he_24
  have he_30 := up_kp eσ_26 nmx he_25
  have hEnd : ∀ z, S z → σ_26 (ad z) = some (cE (kr z) (X.2.2.2 1) (((rlR rg lf x y) z).map ad) (((rlL rg x y) z).map ad) (((rlP rg pa x y) z).map ad) (co z)) := by
    intro z hz
    rcases rr_at hB hx hy z hz with ⟨rfl, w1, w2, w3⟩ | ⟨rfl, w1, w2, w3⟩ | ⟨w0, w1, w2, w3⟩ | ⟨w0, w4, w1, w2, w3⟩ | ⟨w0, w4, w5, w1, w2, w3⟩ | ⟨w4, w5, w6, w0, w1, w2, w3⟩
    · rw [w1, w2, w3, hm]; exact he_28
    · rw [w1, w2, w3, hp]; exact he_29
    · rw [hm] at w0; cases w0; rw [w1, w2, w3]; exact he_30
    · rw [hp] at w0; cases w0
    · rw [hp] at w0; cases w0
    · (have gT : ad z ≠ T := tl_ne (hE z hz).1 fT (by decide)); (have gx : ad z ≠ ad x := fun u => w4 (hI _ _ hz hx u)); (have gy : ad z ≠ ad y := fun u => w5 (hI _ _ hz sy u)); (have gm : ad z ≠ ad mm := fun u => w6 (by rw [hm, hI _ _ hz sm u])); rw [w1, w2, w3, eσ_26, up_n gx, eσ_21, up_n gy, eσ_16, up_n gT, eσ_11, up_n gy, eσ_6, up_n gm, eσ_1, up_n gx]; exact (hE z hz).1
  have hFr : ∀ b e, σ b = some e → nct e → σ_26 b = some e := by
    intro b e hb hn
    have gT : b ≠ T := nct_ne hb hn fT (Or.inl rfl)
    have gx : b ≠ ad x := nct_ne hb hn fx (Or.inr rfl)
    have gy : b ≠ ad y := nct_ne hb hn fy (Or.inr rfl)
    have gm : b ≠ ad mm := nct_ne hb hn fm (Or.inr rfl)
    rw [eσ_26, up_n gx, eσ_21, up_n gy, eσ_16, up_n gT, eσ_11, up_n gy, eσ_6, up_n gm, eσ_1, up_n gx]; exact hb
  exact r_v C hr hlk hS ⟨⟨by unfold rlT; rw [if_pos hrt]; exact he_27, fun z hz => ⟨hEnd z hz, hFr _ _ (hE z hz).2.1 (nct_Z z), (hE z hz).2.2⟩, hI⟩, hS.fix, hFr⟩ dJ21_rotateRight_95

set_option maxHeartbeats 4000000 in
theorem m_rotR11 (l : Launch) (X : tl_X) (σ : tl_H) (T : Nat) (n md : Int) (ks : Option Nat) (N : Int) (S : Int → Prop) (rt : Option Int) (lf rg pa : Int → Option Int) (lo hi co : Int → Int) (ad kr : Int → Nat) (hT : TM X σ T n md ks S rt lf rg pa co ad kr) (hB : BT N S rt lf rg pa lo hi) (x y : Int) (hx : S x) (hy : lf x = some y) (mm : Int) (hm : rg y = some mm) (q : Int) (hp : pa x = some q) (hq : rg q = some x) : tl_Met l X yJ21_rotateRight cJ21_rotateRight 3 ((Option.none : Option FieldType)) 1 (0) (0) [.ref (T), .ref (ad x)] σ (tl_Qv X (fun σ' => TM X σ' T n md ks S (rlT rt x y) (rlR rg lf x y) (rlL rg x y) (rlP rg pa x y) co ad kr ∧ TF X σ σ')) := by
  obtain ⟨hT0, hE, hI⟩ := hT
  obtain ⟨sy, py, ey1, ey2⟩ := (hB.2.2.2.1 x hx).1 y hy
  have bx := hB.1 x hx
  have by_ := hB.1 y sy
  have hxy : x ≠ y := by omega
  have nxy : ad x ≠ ad y := fun z => hxy (hI _ _ hx sy z)
  obtain ⟨sm, pm, em1, em2⟩ := (hB.2.2.2.2.1 y sy).1 mm hm
  have bm := hB.1 mm sm
  have nmx : ad mm ≠ ad x := fun z => by have := hI _ _ sm hx z; omega
  have nmy : ad mm ≠ ad y := fun z => by have := hI _ _ sm sy z; omega
  have sq := ((hB.2.2.2.2.2.1 x hx).1 q hp).1
  obtain ⟨-, -, eq1, eq2⟩ := (hB.2.2.2.2.1 q sq).1 x hq
  have bq := hB.1 q sq
  have nqx : ad q ≠ ad x := fun z => by have := hI _ _ sq hx z; omega
  have nqy : ad q ≠ ad y := fun z => by have := hI _ _ sq sy z; omega
  have nmq : ad mm ≠ ad q := fun z => by have := hI _ _ sm sq z; omega
  have hrt : rt ≠ some x := fun z => by have := (hB.2.2.2.2.2.2.1 x z).2.1; rw [hp] at this; cases this
  have fT : σ (T) = some (oO 13 [.null, .null, .null, va_rf (rt.map ad), .int (iI (n)), .int (iI (md)), .null, va_rf (ks), .null]) := by exact hT0
  have fx : σ (ad x) = some (oO 16 [.ref (kr x), .ref (X.2.2.2 1), .ref (ad y), va_rf ((rg x).map ad), .ref (ad q), .int (iI (co x))]) := by rw [(hE x hx).1, hy, hp]; rfl
  have fy : σ (ad y) = some (oO 16 [.ref (kr y), .ref (X.2.2.2 1), va_rf ((lf y).map ad), .ref (ad mm), .ref (ad x), .int (iI (co y))]) := by rw [(hE y sy).1, hm, py]; rfl
  have fm : σ (ad mm) = some (oO 16 [.ref (kr mm), .ref (X.2.2.2 1), va_rf ((lf mm).map ad), va_rf ((rg mm).map ad), .ref (ad y), .int (iI (co mm))]) := by rw [(hE mm sm).1, pm]; rfl
  have fq : σ (ad q) = some (oO 16 [.ref (kr q), .ref (X.2.2.2 1), va_rf ((lf q).map ad), .ref (ad x), va_rf ((pa q).map ad), .int (iI (co q))]) := by rw [(hE q sq).1, hq]; rfl
  refine tl_start (by decide) (Nat.le_of_ble_eq_true rfl) (fun p e s m below meth c ls C hr hml hlk hnm hS hl => ?_)
  have hl : lv_has ls 3 [(0, .ref (T)), (1, .ref (ad x))] := hl
  refine lv_aload_n C.1 C.2.1 dJ21_rotateRight_0 rfl (lv_at hl 1 rfl) ?_
  refine lv_ifnull C.1 C.2.1 dJ21_rotateRight_1 ?_
  refine lv_aload_n C.1 C.2.1 dJ21_rotateRight_4 rfl (lv_at hl 1 rfl) ?_
  refine gf_J21_111_16 C hS fx rfl dJ21_rotateRight_5 ?_
  refine lv_astore_n (lv' := [(2, .ref (ad y)), (0, .ref (T)), (1, .ref (ad x))]) C.1 C.2.1 dJ21_rotateRight_8 rfl hl (by decide) rfl (fun ls hl => ?_)
  refine lv_aload_n C.1 C.2.1 dJ21_rotateRight_9 rfl (lv_at hl 2 rfl) ?_
  refine lv_aload_n C.1 C.2.1 dJ21_rotateRight_10 rfl (lv_at hl 0 rfl) ?_
  refine gf_J21_114_16 C hS fy rfl dJ21_rotateRight_11 ?_
  refine gp_J21_111_16 C hS fx rfl rfl (Nat.le_of_ble_eq_true rfl) dJ21_rotateRight_14 (fun H locs hS => ?_)
  obtain ⟨σ_1, eσ_1⟩ : ∃ z, z = va_up σ (ad x) (some (oO 16 [.ref (kr x), .ref (X.2.2.2 1), .ref (ad mm), va_rf ((rg x).map ad), .ref (ad q), .int (iI (co x))])) := ⟨_, rfl⟩
  have hS : tl_S X s σ_1 H locs := by rw [eσ_1]; exact hS
  have he_2 := up_kp eσ_1 (tl_ne fT fx (by decide)) fT
  have he_3 : σ_1 (ad x) = some (oO 16 [.ref (kr x), .ref (X.2.2.2 1), .ref (ad mm), va_rf ((rg x).map ad), .ref (ad q), .int (iI (co x))]) := by rw [eσ_1]; exact up_s
  have he_4 := up_kp eσ_1 (Ne.symm nxy) fy
  have he_5 := up_kp eσ_1 nmx fm
  have he_6 := up_kp eσ_1 nqx fq
  refine lv_aload_n C.1 C.2.1 dJ21_rotateRight_17 rfl (lv_at hl 0 rfl) ?_
  refine gf_J21_114_16 C hS he_4 rfl dJ21_rotateRight_18 ?_
  refine lv_ifnull C.1 C.2.1 dJ21_rotateRight_21 ?_
  refine lv_aload_n C.1 C.2.1 dJ21_rotateRight_24 rfl (lv_at hl 0 rfl) ?_
  refine gf_J21_114_16 C hS he_4 rfl dJ21_rotateRight_25 ?_
  refine lv_aload_n C.1 C.2.1 dJ21_rotateRight_28 rfl (lv_at hl 2 rfl) ?_
  refine gp_J21_124_16 C hS he_5 rfl rfl (Nat.le_of_ble_eq_true rfl) dJ21_rotateRight_29 (fun H locs hS => ?_)
  obtain ⟨σ_7, eσ_7⟩ : ∃ z, z = va_up σ_1 (ad mm) (some (oO 16 [.ref (kr mm), .ref (X.2.2.2 1), va_rf ((lf mm).map ad), va_rf ((rg mm).map ad), .ref (ad x), .int (iI (co mm))])) := ⟨_, rfl⟩
  have hS : tl_S X s σ_7 H locs := by rw [eσ_7]; exact hS
  have he_8 := up_kp eσ_7 (tl_ne he_2 he_5 (by decide)) he_2
  have he_9 := up_kp eσ_7 (Ne.symm nmx) he_3
  have he_10 := up_kp eσ_7 (Ne.symm nmy) he_4
  have he_11 : σ_7 (ad mm) = some (oO 16 [.ref (kr mm), .ref (X.2.2.2 1), va_rf ((lf mm).map ad), va_rf ((rg mm).map ad), .ref (ad x), .int (iI (co mm))]) := by rw [eσ_7]; exact up_s
  have he_12 := up_kp eσ_7 (Ne.symm nmq) he_6
  refine lv_aload_n C.1 C.2.1 dJ21_rotateRight_32 rfl (lv_at hl 0 rfl) ?_
  refine lv_aload_n C.1 C.2.1 dJ21_rotateRight_33 rfl (lv_at hl 2 rfl) ?_
  refine gf_J21_124_16 C hS he_9 rfl dJ21_rotateRight_34 ?_
  refine gp_J21_124_16 C hS he_10 rfl rfl (Nat.le_of_ble_eq_true rfl) dJ21_rotateRight_37 (fun H locs hS => ?_)
  obtain ⟨σ_13, eσ_13⟩ : ∃ z, z = va_up σ_7 (ad y) (some (oO 16 [.ref (kr y), .ref (X.2.2.2 1), va_rf ((lf y).map ad), .ref (ad mm), .ref (ad q), .int (iI (co y))])) := ⟨_, rfl⟩
  have hS : tl_S X s σ_13 H locs := by rw [eσ_13]; exact hS
  have he_14 := up_kp eσ_13 (tl_ne he_8 he_10 (by decide)) he_8
  have he_15 := up_kp eσ_13 nxy he_9
  have he_16 : σ_13 (ad y) = some (oO 16 [.ref (kr y), .ref (X.2.2.2 1), va_rf ((lf y).map ad), .ref (ad mm), .ref (ad q), .int (iI (co y))]) := by rw [eσ_13]; exact up_s
  have he_17 := up_kp eσ_13 nmy he_11
  have he_18 := up_kp eσ_13 nqy he_12
  refine lv_aload_n C.1 C.2.1 dJ21_rotateRight_40 rfl (lv_at hl 2 rfl) ?_
  refine gf_J21_124_16 C hS he_15 rfl dJ21_rotateRight_41 ?_
  refine lv_ifnonnull (tgt := 55) C.1 C.2.1 dJ21_rotateRight_44 (by decide) ?_
  refine lv_aload_n C.1 C.2.1 dJ21_rotateRight_55 rfl (lv_at hl 2 rfl) ?_
  refine gf_J21_124_16 C hS he_15 rfl dJ21_rotateRight_56 ?_
  refine gf_J21_114_16 C hS he_18 rfl dJ21_rotateRight_59 ?_
  refine lv_aload_n C.1 C.2.1 dJ21_rotateRight_62 rfl (lv_at hl 2 rfl) ?_
  refine lv_acmp_ne (tgt := 77) (rx := (some (ad x))) (ry := (some (ad x))) C.1 C.2.1 dJ21_rotateRight_63 (by decide) (fun hc_19 => ?_) (fun hc_19 => ?_)
  · skip
    exact absurd rfl hc_19
  · skip
    refine lv_aload_n C.1 C.2.1 dJ21_rotateRight_66 rfl (lv_at hl 2 rfl) ?_
    refine gf_J21_124_16 C hS he_15 rfl dJ21_rotateRight_67 ?_
    refine lv_aload_n C.1 C.2.1 dJ21_rotateRight_70 rfl (lv_at hl 0 rfl) ?_
    refine gp_J21_114_16 C hS he_18 rfl rfl (Nat.le_of_ble_eq_true rfl) dJ21_rotateRight_71 (fun H locs hS => ?_)
    obtain ⟨σ_20, eσ_20⟩ : ∃ z, z = va_up σ_13 (ad q) (some (oO 16 [.ref (kr q), .ref (X.2.2.2 1), va_rf ((lf q).map ad), .ref (ad y), va_rf ((pa q).map ad), .int (iI (co q))])) := ⟨_, rfl⟩
    have hS : tl_S X s σ_20 H locs := by rw [eσ_20]; exact hS
    have he_21 := up_kp eσ_20 (tl_ne he_14 he_18 (by decide)) he_14
    have he_22 := up_kp eσ_20 (Ne.symm nqx) he_15
    have he_23 := up_kp eσ_20 (Ne.symm nqy) he_16
    have he_24 := up_kp eσ_20 nmq he_17
    have he_25 : σ_20 (ad q) = some (oO 16 [.ref (kr q), .ref (X.2.2.2 1), va_rf ((lf q).map ad), .ref (ad y), va_rf ((pa q).map ad), .int (iI (co q))]) := by rw [eσ_20]; exact up_s
    refine lv_goto (tgt := 85) C.1 C.2.1 dJ21_rotateRight_74 (by decide) ?_
    refine lv_aload_n C.1 C.2.1 dJ21_rotateRight_85 rfl (lv_at hl 0 rfl) ?_
    refine lv_aload_n C.1 C.2.1 dJ21_rotateRight_86 rfl (lv_at hl 2 rfl) ?_
    refine gp_J21_114_16 C hS he_23 rfl rfl (Nat.le_of_ble_eq_true rfl) dJ21_rotateRight_87 (fun H locs hS => ?_)
    obtain ⟨σ_26, eσ_26⟩ : ∃ z, z = va_up σ_20 (ad y) (some (oO 16 [.ref (kr y), .ref (X.2.2.2 1), va_rf ((lf y).map ad), .ref (ad x), .ref (ad q), .int (iI (co y))])) := ⟨_, rfl⟩
    have hS : tl_S X s σ_26 H locs := by rw [eσ_26]; exact hS
    have he_27 := up_kp eσ_26 (tl_ne he_21 he_23 (by decide)) he_21
    have he_28 := up_kp eσ_26 nxy he_22
    have he_29 : σ_26 (ad y) = some (oO 16 [.ref (kr y), .ref (X.2.2.2 1), va_rf ((lf y).map ad), .ref (ad x), .ref (ad q), .int (iI (co y))]) := by rw [eσ_26]; exact up_s
    have he_30 := up_kp eσ_26 nmy he_24
    have he_31 := up_kp eσ_26 nqy he_25
    refine lv_aload_n C.1 C.2.1 dJ21_rotateRight_90 rfl (lv_at hl 2 rfl) ?_
    refine lv_aload_n C.1 C.2.1 dJ21_rotateRight_91 rfl (lv_at hl 0 rfl) ?_
    refine gp_J21_124_16 C hS he_28 rfl rfl (Nat.le_of_ble_eq_true rfl) dJ21_rotateRight_92 (fun H locs hS => ?_)
    obtain ⟨σ_32, eσ_32⟩ : ∃ z, z = va_up σ_26 (ad x) (some (oO 16 [.ref (kr x), .ref (X.2.2.2 1), .ref (ad mm), va_rf ((rg x).map ad), .ref (ad y), .int (iI (co x))])) := ⟨_, rfl⟩
    have hS : tl_S X s σ_32 H locs := by rw [eσ_32]; exact hS
    have he_33 := up_kp eσ_32 (tl_ne he_27 he_28 (by decide)) he_27
    have he_34 : σ_32 (ad x) = some (oO 16 [.ref (kr x), .ref (X.2.2.2 1), .ref (ad mm), va_rf ((rg x).map ad), .ref (ad y), .int (iI (co x))]) := by rw [eσ_32]; exact up_s
    have he_35 := up_kp eσ_32 (Ne.symm nxy) he_29
    have he_36 := up_kp eσ_32 nmx he_30
    have he_37 := up_kp eσ_32 nqx he_31
    have hEnd : ∀ z, S z → σ_32 (ad z) = some (cE (kr z) (X.2.2.2 1) (((rlR rg lf x y) z).map ad) (((rlL rg x y) z).map ad) (((rlP rg pa x y) z).map ad) (co z)) := by
      intro z hz
      rcases rr_at hB hx hy z hz with ⟨rfl, w1, w2, w3⟩ | ⟨rfl, w1, w2, w3⟩ | ⟨w0, w1, w2, w3⟩ | ⟨w0, w4, w1, w2, w3⟩ | ⟨w0, w4, w5, w1, w2, w3⟩ | ⟨w4, w5, w6, w0, w1, w2, w3⟩
      · rw [w1, w2, w3, hm]; exact he_34
      · rw [w1, w2, w3, hp]; exact he_35
      · rw [hm] at w0; cases w0; rw [w1, w2, w3]; exact he_36
      · rw [hp] at w0; cases w0; rw [w1, w2, w3]; exact he_37
      · rw [hp] at w0; cases w0; exact absurd hq w5
      · (have gT : ad z ≠ T := tl_ne (hE z hz).1 fT (by decide)); (have gx : ad z ≠ ad x := fun u => w4 (hI _ _ hz hx u)); (have gy : ad z ≠ ad y := fun u => w5 (hI _ _ hz sy u)); (have gm : ad z ≠ ad mm := fun u => w6 (by rw [hm, hI _ _ hz sm u])); (have gq : ad z ≠ ad q := fun u => w0 (by rw [hp, hI _ _ hz sq u])); rw [w1, w2, w3, eσ_32, up_n gx, eσ_26, up_n gy, eσ_20, up_n gq, eσ_13, up_n gy, eσ_7, up_n gm, eσ_1, up_n gx]; exact (hE z hz).1
    have hFr : ∀ b e, σ b = some e → nct e → σ_32 b = some e := by
      intro b e hb hn
      have gT : b ≠ T := nct_ne hb hn fT (Or.inl rfl)
      have gx : b ≠ ad x := nct_ne hb hn fx (Or.inr rfl)
      have gy : b ≠ ad y := nct_ne hb hn fy (Or.inr rfl)
      have gm : b ≠ ad mm := nct_ne hb hn fm (Or.inr rfl)
      have gq : b ≠ ad q := nct_ne hb hn fq (Or.inr rfl)
      rw [eσ_32, up_n gx, eσ_26, up_n gy, eσ_20, up_n gq, eσ_13, up_n gy, eσ_7, up_n gm, eσ_1, up_n gx]; exact hb
    exact r_v C hr hlk hS ⟨⟨by unfold rlT; rw [if_neg hrt]; exact he_33, fun z hz => ⟨hEnd z hz, hFr _ _ (hE z hz).2.1 (nct_Z z), (hE z hz).2.2⟩, hI⟩, hS.fix, hFr⟩ dJ21_rotateRight_95

set_option maxHeartbeats 4000000 in
theorem m_rotR12 (l : Launch) (X : tl_X) (σ : tl_H) (T : Nat) (n md : Int) (ks : Option Nat) (N : Int) (S : Int → Prop) (rt : Option Int) (lf rg pa : Int → Option Int) (lo hi co : Int → Int) (ad kr : Int → Nat) (hT : TM X σ T n md ks S rt lf rg pa co ad kr) (hB : BT N S rt lf rg pa lo hi) (x y : Int) (hx : S x) (hy : lf x = some y) (mm : Int) (hm : rg y = some mm) (q : Int) (hp : pa x = some q) (hq : lf q = some x) : tl_Met l X yJ21_rotateRight cJ21_rotateRight 3 ((Option.none : Option FieldType)) 1 (0) (0) [.ref (T), .ref (ad x)] σ (tl_Qv X (fun σ' => TM X σ' T n md ks S (rlT rt x y) (rlR rg lf x y) (rlL rg x y) (rlP rg pa x y) co ad kr ∧ TF X σ σ')) := by
  obtain ⟨hT0, hE, hI⟩ := hT
  obtain ⟨sy, py, ey1, ey2⟩ := (hB.2.2.2.1 x hx).1 y hy
  have bx := hB.1 x hx
  have by_ := hB.1 y sy
  have hxy : x ≠ y := by omega
  have nxy : ad x ≠ ad y := fun z => hxy (hI _ _ hx sy z)
  obtain ⟨sm, pm, em1, em2⟩ := (hB.2.2.2.2.1 y sy).1 mm hm
  have bm := hB.1 mm sm
  have nmx : ad mm ≠ ad x := fun z => by have := hI _ _ sm hx z; omega
  have nmy : ad mm ≠ ad y := fun z => by have := hI _ _ sm sy z; omega
  have sq := ((hB.2.2.2.2.2.1 x hx).1 q hp).1
  obtain ⟨-, -, eq1, eq2⟩ := (hB.2.2.2.1 q sq).1 x hq
  have bq := hB.1 q sq
  have nqx : ad q ≠ ad x := fun z => by have := hI _ _ sq hx z; omega
  have nqy : ad q ≠ ad y := fun z => by have := hI _ _ sq sy z; omega
  have nmq : ad mm ≠ ad q := fun z => by have := hI _ _ sm sq z; omega
  have hrt : rt ≠ some x := fun z => by have := (hB.2.2.2.2.2.2.1 x z).2.1; rw [hp] at this; cases this
  have hqn : rg q ≠ some x := fun z => by obtain ⟨-, -, u1, u2⟩ := (hB.2.2.2.2.1 q sq).1 x z; omega
  have hqa : (rg q).map ad ≠ some (ad x) := fun z => by obtain ⟨u, u1, u2⟩ := Option.map_eq_some_iff.mp z; exact hqn (by rw [u1, hI _ _ ((hB.2.2.2.2.1 q sq).1 u u1).1 hx u2])
  have fT : σ (T) = some (oO 13 [.null, .null, .null, va_rf (rt.map ad), .int (iI (n)), .int (iI (md)), .null, va_rf (ks), .null]) := by exact hT0
  have fx : σ (ad x) = some (oO 16 [.ref (kr x), .ref (X.2.2.2 1), .ref (ad y), va_rf ((rg x).map ad), .ref (ad q), .int (iI (co x))]) := by rw [(hE x hx).1, hy, hp]; rfl
  have fy : σ (ad y) = some (oO 16 [.ref (kr y), .ref (X.2.2.2 1), va_rf ((lf y).map ad), .ref (ad mm), .ref (ad x), .int (iI (co y))]) := by rw [(hE y sy).1, hm, py]; rfl
  have fm : σ (ad mm) = some (oO 16 [.ref (kr mm), .ref (X.2.2.2 1), va_rf ((lf mm).map ad), va_rf ((rg mm).map ad), .ref (ad y), .int (iI (co mm))]) := by rw [(hE mm sm).1, pm]; rfl
  have fq : σ (ad q) = some (oO 16 [.ref (kr q), .ref (X.2.2.2 1), .ref (ad x), va_rf ((rg q).map ad), va_rf ((pa q).map ad), .int (iI (co q))]) := by rw [(hE q sq).1, hq]; rfl
  refine tl_start (by decide) (Nat.le_of_ble_eq_true rfl) (fun p e s m below meth c ls C hr hml hlk hnm hS hl => ?_)
  have hl : lv_has ls 3 [(0, .ref (T)), (1, .ref (ad x))] := hl
  refine lv_aload_n C.1 C.2.1 dJ21_rotateRight_0 rfl (lv_at hl 1 rfl) ?_
  refine lv_ifnull C.1 C.2.1 dJ21_rotateRight_1 ?_
  refine lv_aload_n C.1 C.2.1 dJ21_rotateRight_4 rfl (lv_at hl 1 rfl) ?_
  refine gf_J21_111_16 C hS fx rfl dJ21_rotateRight_5 ?_
  refine lv_astore_n (lv' := [(2, .ref (ad y)), (0, .ref (T)), (1, .ref (ad x))]) C.1 C.2.1 dJ21_rotateRight_8 rfl hl (by decide) rfl (fun ls hl => ?_)
  refine lv_aload_n C.1 C.2.1 dJ21_rotateRight_9 rfl (lv_at hl 2 rfl) ?_
  refine lv_aload_n C.1 C.2.1 dJ21_rotateRight_10 rfl (lv_at hl 0 rfl) ?_
  refine gf_J21_114_16 C hS fy rfl dJ21_rotateRight_11 ?_
  refine gp_J21_111_16 C hS fx rfl rfl (Nat.le_of_ble_eq_true rfl) dJ21_rotateRight_14 (fun H locs hS => ?_)
  obtain ⟨σ_1, eσ_1⟩ : ∃ z, z = va_up σ (ad x) (some (oO 16 [.ref (kr x), .ref (X.2.2.2 1), .ref (ad mm), va_rf ((rg x).map ad), .ref (ad q), .int (iI (co x))])) := ⟨_, rfl⟩
  have hS : tl_S X s σ_1 H locs := by rw [eσ_1]; exact hS
  have he_2 := up_kp eσ_1 (tl_ne fT fx (by decide)) fT
  have he_3 : σ_1 (ad x) = some (oO 16 [.ref (kr x), .ref (X.2.2.2 1), .ref (ad mm), va_rf ((rg x).map ad), .ref (ad q), .int (iI (co x))]) := by rw [eσ_1]; exact up_s
  have he_4 := up_kp eσ_1 (Ne.symm nxy) fy
  have he_5 := up_kp eσ_1 nmx fm
  have he_6 := up_kp eσ_1 nqx fq
  refine lv_aload_n C.1 C.2.1 dJ21_rotateRight_17 rfl (lv_at hl 0 rfl) ?_
  refine gf_J21_114_16 C hS he_4 rfl dJ21_rotateRight_18 ?_
  refine lv_ifnull C.1 C.2.1 dJ21_rotateRight_21 ?_
  refine lv_aload_n C.1 C.2.1 dJ21_rotateRight_24 rfl (lv_at hl 0 rfl) ?_
  refine gf_J21_114_16 C hS he_4 rfl dJ21_rotateRight_25 ?_
  refine lv_aload_n C.1 C.2.1 dJ21_rotateRight_28 rfl (lv_at hl 2 rfl) ?_
  refine gp_J21_124_16 C hS he_5 rfl rfl (Nat.le_of_ble_eq_true rfl) dJ21_rotateRight_29 (fun H locs hS => ?_)
  obtain ⟨σ_7, eσ_7⟩ : ∃ z, z = va_up σ_1 (ad mm) (some (oO 16 [.ref (kr mm), .ref (X.2.2.2 1), va_rf ((lf mm).map ad), va_rf ((rg mm).map ad), .ref (ad x), .int (iI (co mm))])) := ⟨_, rfl⟩
  have hS : tl_S X s σ_7 H locs := by rw [eσ_7]; exact hS
  have he_8 := up_kp eσ_7 (tl_ne he_2 he_5 (by decide)) he_2
  have he_9 := up_kp eσ_7 (Ne.symm nmx) he_3
  have he_10 := up_kp eσ_7 (Ne.symm nmy) he_4
  have he_11 : σ_7 (ad mm) = some (oO 16 [.ref (kr mm), .ref (X.2.2.2 1), va_rf ((lf mm).map ad), va_rf ((rg mm).map ad), .ref (ad x), .int (iI (co mm))]) := by rw [eσ_7]; exact up_s
  have he_12 := up_kp eσ_7 (Ne.symm nmq) he_6
  refine lv_aload_n C.1 C.2.1 dJ21_rotateRight_32 rfl (lv_at hl 0 rfl) ?_
  refine lv_aload_n C.1 C.2.1 dJ21_rotateRight_33 rfl (lv_at hl 2 rfl) ?_
  refine gf_J21_124_16 C hS he_9 rfl dJ21_rotateRight_34 ?_
  refine gp_J21_124_16 C hS he_10 rfl rfl (Nat.le_of_ble_eq_true rfl) dJ21_rotateRight_37 (fun H locs hS => ?_)
  obtain ⟨σ_13, eσ_13⟩ : ∃ z, z = va_up σ_7 (ad y) (some (oO 16 [.ref (kr y), .ref (X.2.2.2 1), va_rf ((lf y).map ad), .ref (ad mm), .ref (ad q), .int (iI (co y))])) := ⟨_, rfl⟩
  have hS : tl_S X s σ_13 H locs := by rw [eσ_13]; exact hS
  have he_14 := up_kp eσ_13 (tl_ne he_8 he_10 (by decide)) he_8
  have he_15 := up_kp eσ_13 nxy he_9
  have he_16 : σ_13 (ad y) = some (oO 16 [.ref (kr y), .ref (X.2.2.2 1), va_rf ((lf y).map ad), .ref (ad mm), .ref (ad q), .int (iI (co y))]) := by rw [eσ_13]; exact up_s
  have he_17 := up_kp eσ_13 nmy he_11
  have he_18 := up_kp eσ_13 nqy he_12
  refine lv_aload_n C.1 C.2.1 dJ21_rotateRight_40 rfl (lv_at hl 2 rfl) ?_
  refine gf_J21_124_16 C hS he_15 rfl dJ21_rotateRight_41 ?_
  refine lv_ifnonnull (tgt := 55) C.1 C.2.1 dJ21_rotateRight_44 (by decide) ?_
  refine lv_aload_n C.1 C.2.1 dJ21_rotateRight_55 rfl (lv_at hl 2 rfl) ?_
  refine gf_J21_124_16 C hS he_15 rfl dJ21_rotateRight_56 ?_
  refine gf_J21_114_16 C hS he_18 rfl dJ21_rotateRight_59 ?_
  refine lv_aload_n C.1 C.2.1 dJ21_rotateRight_62 rfl (lv_at hl 2 rfl) ?_
  refine lv_acmp_ne (tgt := 77) (rx := ((rg q).map ad)) (ry := (some (ad x))) C.1 C.2.1 dJ21_rotateRight_63 (by decide) (fun hc_19 => ?_) (fun hc_19 => ?_)
  · skip
    refine lv_aload_n C.1 C.2.1 dJ21_rotateRight_77 rfl (lv_at hl 2 rfl) ?_
    refine gf_J21_124_16 C hS he_15 rfl dJ21_rotateRight_78 ?_
    refine lv_aload_n C.1 C.2.1 dJ21_rotateRight_81 rfl (lv_at hl 0 rfl) ?_
    refine gp_J21_111_16 C hS he_18 rfl rfl (Nat.le_of_ble_eq_true rfl) dJ21_rotateRight_82 (fun H locs hS => ?_)
    obtain ⟨σ_20, eσ_20⟩ : ∃ z, z = va_up σ_13 (ad q) (some (oO 16 [.ref (kr q), .ref (X.2.2.2 1), .ref (ad y), va_rf ((rg q).map ad), va_rf ((pa q).map ad), .int (iI (co q))])) := ⟨_, rfl⟩
    have hS : tl_S X s σ_20 H locs := by rw [eσ_20]; exact hS
    have he_21 := up_kp eσ_20 (tl_ne he_14 he_18 (by decide)) he_14
    have he_22 := up_kp eσ_20 (Ne.symm nqx) he_15
    have he_23 := up_kp eσ_20 (Ne.symm nqy) he_16
    have he_24 := up_kp eσ_20 nmq he_17
    have he_25 : σ_20 (ad q) = some (oO 16 [.ref (kr q), .ref (X.2.2.2 1), .ref (ad y), va_rf ((rg q).map ad), va_rf ((pa q).map ad), .int (iI (co q))]) := by rw [eσ_20]; exact up_s
    refine lv_aload_n C.1 C.2.1 dJ21_rotateRight_85 rfl (lv_at hl 0 rfl) ?_
    refine lv_aload_n C.1 C.2.1 dJ21_rotateRight_86 rfl (lv_at hl 2 rfl) ?_
    refine gp_J21_114_16 C hS he_23 rfl rfl (Nat.le_of_ble_eq_true rfl) dJ21_rotateRight_87 (fun H locs hS => ?_)
    obtain ⟨σ_26, eσ_26⟩ : ∃ z, z = va_up σ_20 (ad y) (some (oO 16 [.ref (kr y), .ref (X.2.2.2 1), va_rf ((lf y).map ad), .ref (ad x), .ref (ad q), .int (iI (co y))])) := ⟨_, rfl⟩
    have hS : tl_S X s σ_26 H locs := by rw [eσ_26]; exact hS
    have he_27 := up_kp eσ_26 (tl_ne he_21 he_23 (by decide)) he_21
    have he_28 := up_kp eσ_26 nxy he_22
    have he_29 : σ_26 (ad y) = some (oO 16 [.ref (kr y), .ref (X.2.2.2 1), va_rf ((lf y).map ad), .ref (ad x), .ref (ad q), .int (iI (co y))]) := by rw [eσ_26]; exact up_s
    have he_30 := up_kp eσ_26 nmy he_24
    have he_31 := up_kp eσ_26 nqy he_25
    refine lv_aload_n C.1 C.2.1 dJ21_rotateRight_90 rfl (lv_at hl 2 rfl) ?_
    refine lv_aload_n C.1 C.2.1 dJ21_rotateRight_91 rfl (lv_at hl 0 rfl) ?_
    refine gp_J21_124_16 C hS he_28 rfl rfl (Nat.le_of_ble_eq_true rfl) dJ21_rotateRight_92 (fun H locs hS => ?_)
    obtain ⟨σ_32, eσ_32⟩ : ∃ z, z = va_up σ_26 (ad x) (some (oO 16 [.ref (kr x), .ref (X.2.2.2 1), .ref (ad mm), va_rf ((rg x).map ad), .ref (ad y), .int (iI (co x))])) := ⟨_, rfl⟩
    have hS : tl_S X s σ_32 H locs := by rw [eσ_32]; exact hS
    have he_33 := up_kp eσ_32 (tl_ne he_27 he_28 (by decide)) he_27
    have he_34 : σ_32 (ad x) = some (oO 16 [.ref (kr x), .ref (X.2.2.2 1), .ref (ad mm), va_rf ((rg x).map ad), .ref (ad y), .int (iI (co x))]) := by rw [eσ_32]; exact up_s
    have he_35 := up_kp eσ_32 (Ne.symm nxy) he_29
    have he_36 := up_kp eσ_32 nmx he_30
    have he_37 := up_kp eσ_32 nqx he_31
    have hEnd : ∀ z, S z → σ_32 (ad z) = some (cE (kr z) (X.2.2.2 1) (((rlR rg lf x y) z).map ad) (((rlL rg x y) z).map ad) (((rlP rg pa x y) z).map ad) (co z)) := by
      intro z hz
      rcases rr_at hB hx hy z hz with ⟨rfl, w1, w2, w3⟩ | ⟨rfl, w1, w2, w3⟩ | ⟨w0, w1, w2, w3⟩ | ⟨w0, w4, w1, w2, w3⟩ | ⟨w0, w4, w5, w1, w2, w3⟩ | ⟨w4, w5, w6, w0, w1, w2, w3⟩
      · rw [w1, w2, w3, hm]; exact he_34
      · rw [w1, w2, w3, hp]; exact he_35
      · rw [hm] at w0; cases w0; rw [w1, w2, w3]; exact he_36
      · rw [hp] at w0; cases w0; exact absurd w4 hqn
      · rw [hp] at w0; cases w0; rw [w1, w2, w3]; exact he_37
      · (have gT : ad z ≠ T := tl_ne (hE z hz).1 fT (by decide)); (have gx : ad z ≠ ad x := fun u => w4 (hI _ _ hz hx u)); (have gy : ad z ≠ ad y := fun u => w5 (hI _ _ hz sy u)); (have gm : ad z ≠ ad mm := fun u => w6 (by rw [hm, hI _ _ hz sm u])); (have gq : ad z ≠ ad q := fun u => w0 (by rw [hp, hI _ _ hz sq u])); rw [w1, w2, w3, eσ_32, up_n gx, eσ_26, up_n gy, eσ_20, up_n gq, eσ_13, up_n gy, eσ_7, up_n gm, eσ_1, up_n gx]; exact (hE z hz).1
    have hFr : ∀ b e, σ b = some e → nct e → σ_32 b = some e := by
      intro b e hb hn
      have gT : b ≠ T := nct_ne hb hn fT (Or.inl rfl)
      have gx : b ≠ ad x := nct_ne hb hn fx (Or.inr rfl)
      have gy : b ≠ ad y := nct_ne hb hn fy (Or.inr rfl)
      have gm : b ≠ ad mm := nct_ne hb hn fm (Or.inr rfl)
      have gq : b ≠ ad q := nct_ne hb hn fq (Or.inr rfl)
      rw [eσ_32, up_n gx, eσ_26, up_n gy, eσ_20, up_n gq, eσ_13, up_n gy, eσ_7, up_n gm, eσ_1, up_n gx]; exact hb
    exact r_v C hr hlk hS ⟨⟨by unfold rlT; rw [if_neg hrt]; exact he_33, fun z hz => ⟨hEnd z hz, hFr _ _ (hE z hz).2.1 (nct_Z z), (hE z hz).2.2⟩, hI⟩, hS.fix, hFr⟩ dJ21_rotateRight_95
  · skip
    exact absurd hc_19 hqa

theorem m_rotR (l : Launch) (X : tl_X) (σ : tl_H) (T : Nat) (n md : Int) (ks : Option Nat) (N : Int) (S : Int → Prop) (rt : Option Int) (lf rg pa : Int → Option Int) (lo hi co : Int → Int) (ad kr : Int → Nat) (hT : TM X σ T n md ks S rt lf rg pa co ad kr) (hB : BT N S rt lf rg pa lo hi) (x y : Int) (hx : S x) (hy : lf x = some y) : tl_Met l X yJ21_rotateRight cJ21_rotateRight 3 ((Option.none : Option FieldType)) 1 (0) (0) [.ref (T), .ref (ad x)] σ (tl_Qv X (fun σ' => TM X σ' T n md ks S (rlT rt x y) (rlR rg lf x y) (rlL rg x y) (rlP rg pa x y) co ad kr ∧ TF X σ σ')) := by
  cases hm : rg y with
  | none =>
    cases hp : pa x with
    | none => exact m_rotR00 l X σ T n md ks N S rt lf rg pa lo hi co ad kr hT hB x y hx hy hm hp
    | some q =>
      rcases ((hB.2.2.2.2.2.1 x hx).1 q hp).2 with u | u
      · exact m_rotR02 l X σ T n md ks N S rt lf rg pa lo hi co ad kr hT hB x y hx hy hm q hp u
      · exact m_rotR01 l X σ T n md ks N S rt lf rg pa lo hi co ad kr hT hB x y hx hy hm q hp u
  | some mm =>
    cases hp : pa x with
    | none => exact m_rotR10 l X σ T n md ks N S rt lf rg pa lo hi co ad kr hT hB x y hx hy mm hm hp
    | some q =>
      rcases ((hB.2.2.2.2.2.1 x hx).1 q hp).2 with u | u
      · exact m_rotR12 l X σ T n md ks N S rt lf rg pa lo hi co ad kr hT hB x y hx hy mm hm q hp u
      · exact m_rotR11 l X σ T n md ks N S rt lf rg pa lo hi co ad kr hT hB x y hx hy mm hm q hp u

