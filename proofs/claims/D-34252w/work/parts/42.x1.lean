/-! THE COMPONENT 1: accounts, small methods, constructors, paths -/
set_option maxRecDepth 100000
def zThr (E : String) (h : zH) (b : Bool) : String → zH → Prop := fun E' h' => E' = E ∧ h' = h ∧ b = false
section X1
variable {g : zG} {l : Launch} {A : Nat → Nat} {k : kS} {h : zH}
theorem c_isOver (hl : l.stackTraces = false) (hK : kIs g A k h) (j : Nat) (hj : j < 9 + kZ k 0) : zM g l yX2_isOver (ws_ yX2_isOver cX2_isOver 1 (some .boolean)) 0 0 0 0 [.ref (A (20 + j))] h (zRi (.int (nB (kOv k j))) h) zNx := by
  refine zM.of (cc := cX2_isOver) (nL := 1) (ret := (some .boolean)) (by decide) hl (zcat rfl) (Nat.le_of_ble_eq_true rfl) ?_
  intro Z hg hz hC hE hN
  subst hg
  subst hz
  change zW Z _ _ _ 0 [some _] []
  have hst := hC.2.2.2.2.2.2.2.1
  have k24 : zW Z h 0 0 24 [some (.ref (A (20 + j)))] [.int (nB (kOv k j))] := by
    exact r_zret hC hE rfl (by first | rfl | exact nB_nz _ | exact nar_ch (by omega) | assumption) dX2_isOver_24 ⟨rfl, rfl⟩
  have kb := zbool hC dX2_isOver_19 dX2_isOver_20 dX2_isOver_23 rfl rfl (by decide) k24
  refine r_aload_n hC dX2_isOver_0 rfl (by first | rfl | exact zisR_rf _) ?_
  refine a_get hC hK 0 hj (by decide) rfl rfl q143 dX2_isOver_1 ?_
  refine r_iconst hC dX2_isOver_4 (v := (-1)) (by decide) ?_
  refine r_icmp_eq hC dX2_isOver_5 (tgt := 23) (by decide) (fun e => kb.2 (by simp [kOv, e])) (fun e1 => ?_)
  refine r_aload_n hC dX2_isOver_8 rfl (by first | rfl | exact zisR_rf _) ?_
  refine a_get hC hK 3 hj (by decide) rfl rfl q149 dX2_isOver_9 ?_
  refine r_aload_n hC dX2_isOver_12 rfl (by first | rfl | exact zisR_rf _) ?_
  refine a_get hC hK 0 hj (by decide) rfl rfl q143 dX2_isOver_13 ?_
  refine r_icmp_le hC dX2_isOver_16 (tgt := 23) (by decide) (fun e => kb.2 ?_) (fun e => kb.1 ?_)
  · simp [kOv, Int32.not_lt.mpr e]
  · simp [kOv, Int32.not_le.mp e, e1]
theorem c_alook (hl : l.stackTraces = false) (hK : kIs g A k h) (j : Nat) (t : Int32) (hj : j < 9 + kZ k 0) : zM g l yX2_look (ws_ yX2_look cX2_look 2 none) 1 20 0 0 [.ref (A (20 + j)), .int t] h (zRv (kH A (kLk k j t) h)) zNx := by
  refine zM.of (cc := cX2_look) (nL := 2) (ret := none) (by decide) hl (zcat rfl) (Nat.le_of_ble_eq_true rfl) ?_
  intro Z hg hz hC hE hN
  subst hg
  subst hz
  change zW Z _ _ _ 0 [some _, some _] []
  have hst := hC.2.2.2.2.2.2.2.1
  have k28 : ∀ x, kSn k j t = x → zW Z h 0 0 28 [some (.ref (A (20 + j))), some (.int t)] [.int x, .ref (A (20 + j))] := by
    intro x hx
    subst hx
    refine a_put hC hK 6 hj (by decide) rfl rfl q154 dX2_look_28 ?_
    exact r_vret hC hE rfl dX2_look_31 ⟨rfl, rfl⟩
  refine r_aload_n hC dX2_look_0 rfl (by first | rfl | exact zisR_rf _) ?_
  refine r_aload_n hC dX2_look_1 rfl (by first | rfl | exact zisR_rf _) ?_
  refine r_callA hC (c_isOver hst hK j hj) (k_sel hK hj q1064 q1066) q1062 q1063 q44 q1067 (n := 0) (by decide +kernel) rfl (Nat.le_of_ble_eq_true rfl) (Nat.le_of_ble_eq_true rfl) rfl (Nat.le_of_ble_eq_true rfl) (Nat.le_refl _) (Nat.le_refl _) dX2_look_2 znx (zri ?_)
  refine r_if_neB hC dX2_look_5 (tgt := 12) (by decide) (fun e => ?_) (fun e => ?_)
  · refine r_aload_n hC dX2_look_12 rfl (by first | rfl | exact zisR_rf _) ?_
    refine a_get hC hK 6 hj (by decide) rfl rfl q154 dX2_look_13 ?_
    refine r_iconst hC dX2_look_16 (v := (-1)) (by decide) ?_
    refine r_icmp_ne hC dX2_look_17 (tgt := 24) (by decide) (fun e1 => ?_) (fun e1 => ?_)
    · refine r_aload_n hC dX2_look_24 rfl (by first | rfl | exact zisR_rf _) ?_
      refine a_get hC hK 6 hj (by decide) rfl rfl q154 dX2_look_25 ?_
      exact k28 _ (by simp [kSn, e, e1])
    · refine r_iload_n hC dX2_look_20 rfl ?_
      refine r_goto hC dX2_look_21 (tgt := 28) (by decide) ?_
      exact k28 _ (by simp [kSn, e, e1])
  · refine r_iconst hC dX2_look_8 (v := (-1)) (by decide) ?_
    refine r_goto hC dX2_look_9 (tgt := 28) (by decide) ?_
    exact k28 _ (by simp [kSn, e])
theorem c_aGone (hl : l.stackTraces = false) (hK : kIs g A k h) (j : Nat) (t : Int32) (hj : j < 9 + kZ k 0) : zM g l yX2_isGone (ws_ yX2_isGone cX2_isGone 2 (some .boolean)) 0 0 0 0 [.ref (A (20 + j)), .int t] h (zRi (.int (nB (kGn k j t))) h) zNx := by
  refine zM.of (cc := cX2_isGone) (nL := 2) (ret := (some .boolean)) (by decide) hl (zcat rfl) (Nat.le_of_ble_eq_true rfl) ?_
  intro Z hg hz hC hE hN
  subst hg
  subst hz
  change zW Z _ _ _ 0 [some _, some _] []
  have hst := hC.2.2.2.2.2.2.2.1
  have k24 : zW Z h 0 0 24 [some (.ref (A (20 + j))), some (.int t)] [.int (nB (kGn k j t))] := by
    exact r_zret hC hE rfl (by first | rfl | exact nB_nz _ | exact nar_ch (by omega) | assumption) dX2_isGone_24 ⟨rfl, rfl⟩
  have kb := zbool hC dX2_isGone_19 dX2_isGone_20 dX2_isGone_23 rfl rfl (by decide) k24
  refine r_aload_n hC dX2_isGone_0 rfl (by first | rfl | exact zisR_rf _) ?_
  refine a_get hC hK 6 hj (by decide) rfl rfl q154 dX2_isGone_1 ?_
  refine r_iconst hC dX2_isGone_4 (v := (-1)) (by decide) ?_
  refine r_icmp_eq hC dX2_isGone_5 (tgt := 23) (by decide) (fun e => kb.2 (by simp [kGn, e])) (fun e1 => ?_)
  refine r_iload_n hC dX2_isGone_8 rfl ?_
  refine r_aload_n hC dX2_isGone_9 rfl (by first | rfl | exact zisR_rf _) ?_
  refine a_get hC hK 6 hj (by decide) rfl rfl q154 dX2_isGone_10 ?_
  refine r_isub hC dX2_isGone_13 ?_
  refine r_bipush hC dX2_isGone_14 (v := (nI 48)) (by decide) ?_
  refine r_icmp_lt hC dX2_isGone_16 (tgt := 23) (by decide) (fun e => kb.2 ?_) (fun e => kb.1 ?_)
  · have : ¬ (48 : Int32) ≤ t - kA k j 6 := Int32.not_le.mpr e
    simp [kGn, this]
  · have : (48 : Int32) ≤ t - kA k j 6 := Int32.not_lt.mp e
    simp [kGn, this, e1]
theorem c_aBars (hl : l.stackTraces = false) (hK : kIs g A k h) (j : Nat) (more t : Int32) (hj : j < 9 + kZ k 0) : zM g l yX2_barsBlocks (ws_ yX2_barsBlocks cX2_barsBlocks 3 (some .boolean)) 1 21 0 0 [.ref (A (20 + j)), .int more, .int t] h (zRi (.int (nB (kBb k j more t))) h) zNx := by
  refine zM.of (cc := cX2_barsBlocks) (nL := 3) (ret := (some .boolean)) (by decide) hl (zcat rfl) (Nat.le_of_ble_eq_true rfl) ?_
  intro Z hg hz hC hE hN
  subst hg
  subst hz
  change zW Z _ _ _ 0 [some _, some _, some _] []
  have hst := hC.2.2.2.2.2.2.2.1
  have k34 : zW Z h 0 0 34 [some (.ref (A (20 + j))), some (.int more), some (.int t)] [.int (nB (kBb k j more t))] := by
    exact r_zret hC hE rfl (by first | rfl | exact nB_nz _ | exact nar_ch (by omega) | assumption) dX2_barsBlocks_34 ⟨rfl, rfl⟩
  have kb := zbool hC dX2_barsBlocks_29 dX2_barsBlocks_30 dX2_barsBlocks_33 rfl rfl (by decide) k34
  have k21 : (!decide (kA k j 1 = -1) && decide (kA k j 1 < kA k j 3 + more)) = false → zW Z h 0 0 21 [some (.ref (A (20 + j))), some (.int more), some (.int t)] [] := by
    intro e
    refine r_aload_n hC dX2_barsBlocks_21 rfl (by first | rfl | exact zisR_rf _) ?_
    refine r_iload_n hC dX2_barsBlocks_22 rfl ?_
    refine r_callA hC (c_aGone hst hK j t hj) (k_sel hK hj q1145 q1147) q1143 q1144 q44 q1148 (n := 1) (by decide +kernel) rfl (Nat.le_of_ble_eq_true rfl) (Nat.le_of_ble_eq_true rfl) rfl (Nat.le_of_ble_eq_true rfl) (Nat.le_refl _) (Nat.le_refl _) dX2_barsBlocks_23 znx (zri ?_)
    refine r_if_eqB hC dX2_barsBlocks_26 (tgt := 33) (by decide) (fun e1 => kb.2 ?_) (fun e1 => kb.1 ?_)
    · unfold kBb; rw [e, e1]; rfl
    · unfold kBb; rw [e1]; simp
  refine r_aload_n hC dX2_barsBlocks_0 rfl (by first | rfl | exact zisR_rf _) ?_
  refine a_get hC hK 1 hj (by decide) rfl rfl q145 dX2_barsBlocks_1 ?_
  refine r_iconst hC dX2_barsBlocks_4 (v := (-1)) (by decide) ?_
  refine r_icmp_eq hC dX2_barsBlocks_5 (tgt := 21) (by decide) (fun e => k21 (by simp [e])) (fun e1 => ?_)
  refine r_aload_n hC dX2_barsBlocks_8 rfl (by first | rfl | exact zisR_rf _) ?_
  refine a_get hC hK 3 hj (by decide) rfl rfl q149 dX2_barsBlocks_9 ?_
  refine r_iload_n hC dX2_barsBlocks_12 rfl ?_
  refine r_iadd hC dX2_barsBlocks_13 ?_
  refine r_aload_n hC dX2_barsBlocks_14 rfl (by first | rfl | exact zisR_rf _) ?_
  refine a_get hC hK 1 hj (by decide) rfl rfl q145 dX2_barsBlocks_15 ?_
  refine r_icmp_gt hC dX2_barsBlocks_18 (tgt := 29) (by decide) (fun e => kb.1 ?_) (fun e => k21 ?_)
  · simp [kBb, e, e1]
  · simp [e]
theorem c_aBarF (hl : l.stackTraces = false) (hK : kIs g A k h) (j : Nat) (hj : j < 9 + kZ k 0) : zM g l yX2_barsFile (ws_ yX2_barsFile cX2_barsFile 1 (some .boolean)) 0 0 0 0 [.ref (A (20 + j))] h (zRi (.int (nB (kBf k j))) h) zNx := by
  refine zM.of (cc := cX2_barsFile) (nL := 1) (ret := (some .boolean)) (by decide) hl (zcat rfl) (Nat.le_of_ble_eq_true rfl) ?_
  intro Z hg hz hC hE hN
  subst hg
  subst hz
  change zW Z _ _ _ 0 [some _] []
  have hst := hC.2.2.2.2.2.2.2.1
  have k26 : zW Z h 0 0 26 [some (.ref (A (20 + j)))] [.int (nB (kBf k j))] := by
    exact r_zret hC hE rfl (by first | rfl | exact nB_nz _ | exact nar_ch (by omega) | assumption) dX2_barsFile_26 ⟨rfl, rfl⟩
  have kb := zbool hC dX2_barsFile_21 dX2_barsFile_22 dX2_barsFile_25 rfl rfl (by decide) k26
  refine r_aload_n hC dX2_barsFile_0 rfl (by first | rfl | exact zisR_rf _) ?_
  refine a_get hC hK 2 hj (by decide) rfl rfl q147 dX2_barsFile_1 ?_
  refine r_iconst hC dX2_barsFile_4 (v := (-1)) (by decide) ?_
  refine r_icmp_eq hC dX2_barsFile_5 (tgt := 25) (by decide) (fun e => kb.2 (by simp [kBf, e])) (fun e1 => ?_)
  refine r_aload_n hC dX2_barsFile_8 rfl (by first | rfl | exact zisR_rf _) ?_
  refine a_get hC hK 4 hj (by decide) rfl rfl q151 dX2_barsFile_9 ?_
  refine r_iconst hC dX2_barsFile_12 (v := (nI 1)) (by decide) ?_
  refine r_iadd hC dX2_barsFile_13 ?_
  refine r_aload_n hC dX2_barsFile_14 rfl (by first | rfl | exact zisR_rf _) ?_
  refine a_get hC hK 2 hj (by decide) rfl rfl q147 dX2_barsFile_15 ?_
  refine r_icmp_le hC dX2_barsFile_18 (tgt := 25) (by decide) (fun e => kb.2 ?_) (fun e => kb.1 ?_)
  · have e' : kA k j 4 + 1 ≤ kA k j 2 := e
    simp [kBf, Int32.not_lt.mpr e']
  · have e' : kA k j 2 < kA k j 4 + 1 := Int32.not_le.mp e
    simp [kBf, e', e1]
theorem c_uses (hl : l.stackTraces = false) (hK : kIs g A k h) (i : Nat) (hi : i < kZ k 1) : zM g l yX5_uses (ws_ yX5_uses cX5_uses 1 (some .int)) 0 0 0 0 [.ref (A (60 + i))] h (zRi (.int (kUse k i)) h) zNx := by
  refine zM.of (cc := cX5_uses) (nL := 1) (ret := (some .int)) (by decide) hl (zcat rfl) (Nat.le_of_ble_eq_true rfl) ?_
  intro Z hg hz hC hE hN
  subst hg
  subst hz
  change zW Z _ _ _ 0 [some _] []
  have hst := hC.2.2.2.2.2.2.2.1
  refine r_aload_n hC dX5_uses_0 rfl (by first | rfl | exact zisR_rf _) ?_
  refine r_get hC 3 in_X5 (ci := 3) rfl (k_ent hK hi) (by decide) ⟨rfl, rfl, rfl⟩ q1104 rfl dX5_uses_1 ?_
  refine r_aload_n hC dX5_uses_4 rfl (by first | rfl | exact zisR_rf _) ?_
  refine r_get hC 4 in_X5 (ci := 3) rfl (k_ent hK hi) (by decide) ⟨rfl, rfl, rfl⟩ q1106 rfl dX5_uses_5 ?_
  refine r_iadd hC dX5_uses_8 ?_
  exact r_iret hC hE rfl dX5_uses_9 ⟨rfl, rfl⟩
theorem c_eInit (hl : l.stackTraces = false) (q p : Nat) (n o : Int32) (hA : zA g q) (hq : h q = some (.inr (3, [.int 0, .int 0, .null, .int 0, .int 0, .int 0]))) : zM g l yX5_init (ws_ yX5_init cX5_init 4 none) 1 20 0 0 [.ref q, .int n, .int o, .ref p] h (zRv (zup h q (.inr (3, [.int n, .int o, .ref p, .int 0, .int 0, .int 0])))) zNx := by
  refine zM.of (cc := cX5_init) (nL := 4) (ret := none) (by decide) hl (zcat rfl) (Nat.le_of_ble_eq_true rfl) ?_
  intro Z hg hz hC hE hN
  subst hg
  subst hz
  change zW Z _ _ _ 0 [some _, some _, some _, some _] []
  have hst := hC.2.2.2.2.2.2.2.1
  refine r_aload_n hC dX5_init_0 rfl (by first | rfl | exact zisR_rf _) ?_
  refine r_objInit hC q1097 q75 q76 dX5_init_1 (Nat.le_of_ble_eq_true rfl) (Nat.le_of_ble_eq_true rfl) (Nat.le_of_ble_eq_true rfl) ?_
  refine r_aload_n hC dX5_init_4 rfl (by first | rfl | exact zisR_rf _) ?_
  refine r_iload_n hC dX5_init_5 rfl ?_
  refine r_putF hC 0 in_X5 tyX5 tyX5_ok nmX5 (ci := 3) rfl hN (by assumption) hq (by decide) ⟨rfl, rfl, rfl, rfl⟩ q1098 (by decide +kernel : parseFieldDescriptor "I" = some (.int)) rfl rfl (by simp) rfl dX5_init_6 ?_
  refine r_aload_n hC dX5_init_9 rfl (by first | rfl | exact zisR_rf _) ?_
  refine r_iload_n hC dX5_init_10 rfl ?_
  refine r_putF hC 1 in_X5 tyX5 tyX5_ok nmX5 (ci := 3) rfl hN (by assumption) zup_s (by decide) ⟨rfl, rfl, rfl, rfl⟩ q1100 (by decide +kernel : parseFieldDescriptor "I" = some (.int)) rfl rfl (by simp) rfl dX5_init_11 ?_
  refine r_aload_n hC dX5_init_14 rfl (by first | rfl | exact zisR_rf _) ?_
  refine r_aload_n hC dX5_init_15 rfl (by first | rfl | exact zisR_rf _) ?_
  refine r_put hC 2 in_X5 tyX5 tyX5_ok nmX5 (ci := 3) rfl (by assumption) zup_s (by decide) ⟨rfl, rfl, rfl, rfl⟩ q1102 (by decide +kernel : parseFieldDescriptor "LAllotmentLedger$Project;" = some (.object "AllotmentLedger$Project")) rfl rfl (by simp) rfl dX5_init_16 ?_
  rw [zup_zup, zup_zup]
  exact r_vret hC hE rfl dX5_init_19 ⟨rfl, rfl⟩
theorem c_rInit (hl : l.stackTraces = false) (q e : Nat) (b : Int32) (hA : zA g q) (hq : h q = some (.inr (4, [.null, .int 0, .int 0]))) : zM g l yX6_init (ws_ yX6_init cX6_init 3 none) 1 20 0 0 [.ref q, .ref e, .int b] h (zRv (zup h q (.inr (4, [.ref e, .int b, .int 0])))) zNx := by
  refine zM.of (cc := cX6_init) (nL := 3) (ret := none) (by decide) hl (zcat rfl) (Nat.le_of_ble_eq_true rfl) ?_
  intro Z hg hz hC hE hN
  subst hg
  subst hz
  change zW Z _ _ _ 0 [some _, some _, some _] []
  have hst := hC.2.2.2.2.2.2.2.1
  refine r_aload_n hC dX6_init_0 rfl (by first | rfl | exact zisR_rf _) ?_
  refine r_objInit hC q1179 q75 q76 dX6_init_1 (Nat.le_of_ble_eq_true rfl) (Nat.le_of_ble_eq_true rfl) (Nat.le_of_ble_eq_true rfl) ?_
  refine r_aload_n hC dX6_init_4 rfl (by first | rfl | exact zisR_rf _) ?_
  refine r_aload_n hC dX6_init_5 rfl (by first | rfl | exact zisR_rf _) ?_
  refine r_putF hC 0 in_X6 tyX6 tyX6_ok nmX6 (ci := 4) rfl hN (by assumption) hq (by decide) ⟨rfl, rfl, rfl, rfl⟩ q1180 (by decide +kernel : parseFieldDescriptor "LAllotmentLedger$Entry;" = some (.object "AllotmentLedger$Entry")) rfl rfl (by simp) rfl dX6_init_6 ?_
  refine r_aload_n hC dX6_init_9 rfl (by first | rfl | exact zisR_rf _) ?_
  refine r_iload_n hC dX6_init_10 rfl ?_
  refine r_putF hC 1 in_X6 tyX6 tyX6_ok nmX6 (ci := 4) rfl hN (by assumption) zup_s (by decide) ⟨rfl, rfl, rfl, rfl⟩ q1182 (by decide +kernel : parseFieldDescriptor "I" = some (.int)) rfl rfl (by simp) rfl dX6_init_11 ?_
  rw [zup_zup]
  exact r_vret hC hE rfl dX6_init_14 ⟨rfl, rfl⟩
theorem c_aInit (hl : l.stackTraces = false) (q : Nat) (hA : zA g q) (hq : h q = some (.inr (1, [.int 0, .int 0, .int 0, .int 0, .int 0, .int 0, .int 0]))) : zM g l yX2_init (ws_ yX2_init cX2_init 1 none) 1 20 0 0 [.ref q] h (zRv (zup h q (.inr (1, [.int (-1), .int (-1), .int (-1), .int 0, .int 0, .int 0, .int (-1)])))) zNx := by
  refine zM.of (cc := cX2_init) (nL := 1) (ret := none) (by decide) hl (zcat rfl) (Nat.le_of_ble_eq_true rfl) ?_
  intro Z hg hz hC hE hN
  subst hg
  subst hz
  change zW Z _ _ _ 0 [some _] []
  have hst := hC.2.2.2.2.2.2.2.1
  refine r_aload_n hC dX2_init_0 rfl (by first | rfl | exact zisR_rf _) ?_
  refine r_objInit hC q142 q75 q76 dX2_init_1 (Nat.le_of_ble_eq_true rfl) (Nat.le_of_ble_eq_true rfl) (Nat.le_of_ble_eq_true rfl) ?_
  refine r_aload_n hC dX2_init_4 rfl (by first | rfl | exact zisR_rf _) ?_
  refine r_iconst hC dX2_init_5 (v := (-1)) (by decide) ?_
  refine r_put hC 0 in_X2 tyX2 tyX2_ok nmX2 (ci := 1) rfl (by assumption) hq (by decide) ⟨rfl, rfl, rfl, rfl⟩ q143 (by decide +kernel : parseFieldDescriptor "I" = some (.int)) rfl rfl (by simp) rfl dX2_init_6 ?_
  refine r_aload_n hC dX2_init_9 rfl (by first | rfl | exact zisR_rf _) ?_
  refine r_iconst hC dX2_init_10 (v := (-1)) (by decide) ?_
  refine r_put hC 1 in_X2 tyX2 tyX2_ok nmX2 (ci := 1) rfl (by assumption) zup_s (by decide) ⟨rfl, rfl, rfl, rfl⟩ q145 (by decide +kernel : parseFieldDescriptor "I" = some (.int)) rfl rfl (by simp) rfl dX2_init_11 ?_
  refine r_aload_n hC dX2_init_14 rfl (by first | rfl | exact zisR_rf _) ?_
  refine r_iconst hC dX2_init_15 (v := (-1)) (by decide) ?_
  refine r_put hC 2 in_X2 tyX2 tyX2_ok nmX2 (ci := 1) rfl (by assumption) zup_s (by decide) ⟨rfl, rfl, rfl, rfl⟩ q147 (by decide +kernel : parseFieldDescriptor "I" = some (.int)) rfl rfl (by simp) rfl dX2_init_16 ?_
  refine r_aload_n hC dX2_init_19 rfl (by first | rfl | exact zisR_rf _) ?_
  refine r_iconst hC dX2_init_20 (v := (-1)) (by decide) ?_
  refine r_put hC 6 in_X2 tyX2 tyX2_ok nmX2 (ci := 1) rfl (by assumption) zup_s (by decide) ⟨rfl, rfl, rfl, rfl⟩ q154 (by decide +kernel : parseFieldDescriptor "I" = some (.int)) rfl rfl (by simp) rfl dX2_init_21 ?_
  rw [zup_zup, zup_zup, zup_zup]
  exact r_vret hC hE rfl dX2_init_24 ⟨rfl, rfl⟩
theorem c_aInitP (hl : l.stackTraces = false) (q : Nat) (hA : zA g q) (hq : h q = some (.inr (2, [.int 0, .int 0, .int 0, .int 0, .int 0, .int 0, .int 0, .int 0, .null]))) : zM g l yX2_init (ws_ yX2_init cX2_init 1 none) 1 20 0 0 [.ref q] h (zRv (zup h q (.inr (2, [.int (-1), .int (-1), .int (-1), .int 0, .int 0, .int 0, .int (-1), .int 0, .null])))) zNx := by
  refine zM.of (cc := cX2_init) (nL := 1) (ret := none) (by decide) hl (zcat rfl) (Nat.le_of_ble_eq_true rfl) ?_
  intro Z hg hz hC hE hN
  subst hg
  subst hz
  change zW Z _ _ _ 0 [some _] []
  have hst := hC.2.2.2.2.2.2.2.1
  refine r_aload_n hC dX2_init_0 rfl (by first | rfl | exact zisR_rf _) ?_
  refine r_objInit hC q142 q75 q76 dX2_init_1 (Nat.le_of_ble_eq_true rfl) (Nat.le_of_ble_eq_true rfl) (Nat.le_of_ble_eq_true rfl) ?_
  refine r_aload_n hC dX2_init_4 rfl (by first | rfl | exact zisR_rf _) ?_
  refine r_iconst hC dX2_init_5 (v := (-1)) (by decide) ?_
  refine r_put hC 0 in_X3 tyX3 tyX3_ok nmX3 (ci := 2) rfl (by assumption) hq (by decide) ⟨rfl, rfl, rfl, rfl⟩ q143 (by decide +kernel : parseFieldDescriptor "I" = some (.int)) rfl rfl (by simp) rfl dX2_init_6 ?_
  refine r_aload_n hC dX2_init_9 rfl (by first | rfl | exact zisR_rf _) ?_
  refine r_iconst hC dX2_init_10 (v := (-1)) (by decide) ?_
  refine r_put hC 1 in_X3 tyX3 tyX3_ok nmX3 (ci := 2) rfl (by assumption) zup_s (by decide) ⟨rfl, rfl, rfl, rfl⟩ q145 (by decide +kernel : parseFieldDescriptor "I" = some (.int)) rfl rfl (by simp) rfl dX2_init_11 ?_
  refine r_aload_n hC dX2_init_14 rfl (by first | rfl | exact zisR_rf _) ?_
  refine r_iconst hC dX2_init_15 (v := (-1)) (by decide) ?_
  refine r_put hC 2 in_X3 tyX3 tyX3_ok nmX3 (ci := 2) rfl (by assumption) zup_s (by decide) ⟨rfl, rfl, rfl, rfl⟩ q147 (by decide +kernel : parseFieldDescriptor "I" = some (.int)) rfl rfl (by simp) rfl dX2_init_16 ?_
  refine r_aload_n hC dX2_init_19 rfl (by first | rfl | exact zisR_rf _) ?_
  refine r_iconst hC dX2_init_20 (v := (-1)) (by decide) ?_
  refine r_put hC 6 in_X3 tyX3 tyX3_ok nmX3 (ci := 2) rfl (by assumption) zup_s (by decide) ⟨rfl, rfl, rfl, rfl⟩ q154 (by decide +kernel : parseFieldDescriptor "I" = some (.int)) rfl rfl (by simp) rfl dX2_init_21 ?_
  rw [zup_zup, zup_zup, zup_zup]
  exact r_vret hC hE rfl dX2_init_24 ⟨rfl, rfl⟩
theorem c_pInit (hl : l.stackTraces = false) (q s : Nat) (n : Int32) (hA : zA g q) (hq : h q = some (.inr (2, [.int 0, .int 0, .int 0, .int 0, .int 0, .int 0, .int 0, .int 0, .null]))) : zM g l yX3_init (ws_ yX3_init cX3_init 3 none) 2 40 0 0 [.ref q, .int n, .ref s] h (zRv (zup h q (.inr (2, [.int (-1), .int (-1), .int (-1), .int 0, .int 0, .int 0, .int (-1), .int n, .ref s])))) zNx := by
  refine zM.of (cc := cX3_init) (nL := 3) (ret := none) (by decide) hl (zcat rfl) (Nat.le_of_ble_eq_true rfl) ?_
  intro Z hg hz hC hE hN
  subst hg
  subst hz
  change zW Z _ _ _ 0 [some _, some _, some _] []
  have hst := hC.2.2.2.2.2.2.2.1
  refine r_aload_n hC dX3_init_0 rfl (by first | rfl | exact zisR_rf _) ?_
  refine r_callIN hC (host := "AllotmentLedger") (c_aInitP hst q hA hq) (by decide +kernel) q140 q44 q141 rfl (n := 0) (by decide +kernel) rfl (Nat.le_of_ble_eq_true rfl) (Nat.le_of_ble_eq_true rfl) rfl (Nat.le_of_ble_eq_true rfl) (Nat.le_refl _) (Nat.le_refl _) dX3_init_1 znx (zrv ?_)
  refine r_aload_n hC dX3_init_4 rfl (by first | rfl | exact zisR_rf _) ?_
  refine r_iload_n hC dX3_init_5 rfl ?_
  refine r_putF hC 7 in_X3 tyX3 tyX3_ok nmX3 (ci := 2) rfl hN (by assumption) zup_s (by decide) ⟨rfl, rfl, rfl, rfl⟩ q178 (by decide +kernel : parseFieldDescriptor "I" = some (.int)) rfl rfl (by simp) rfl dX3_init_6 ?_
  refine r_aload_n hC dX3_init_9 rfl (by first | rfl | exact zisR_rf _) ?_
  refine r_aload_n hC dX3_init_10 rfl (by first | rfl | exact zisR_rf _) ?_
  refine r_put hC 8 in_X3 tyX3 tyX3_ok nmX3 (ci := 2) rfl (by assumption) zup_s (by decide) ⟨rfl, rfl, rfl, rfl⟩ q180 (by decide +kernel : parseFieldDescriptor "Ljava/lang/String;" = some (.object "java/lang/String")) rfl rfl (by simp) rfl dX3_init_11 ?_
  rw [zup_zup, zup_zup]
  exact r_vret hC hE rfl dX3_init_14 ⟨rfl, rfl⟩
theorem c_pWithin (hl : l.stackTraces = false) (hK : kIs g A k h) (p q : Nat) (hp : p < kZ k 0) (hq : q < kZ k 0) : zM g l yX3_isWithin (ws_ yX3_isWithin cX3_isWithin 2 (some .boolean)) 10 413 0 0 [.ref (A (29 + p)), .ref (A (29 + q))] h (zRi (.int (nB (kWi k p q))) h) zNx := by
  refine zM.of (cc := cX3_isWithin) (nL := 2) (ret := (some .boolean)) (by decide) hl (zcat rfl) (Nat.le_of_ble_eq_true rfl) ?_
  intro Z hg hz hC hE hN
  subst hg
  subst hz
  change zW Z _ _ _ 0 [some _, some _] []
  have hst := hC.2.2.2.2.2.2.2.1
  have hlp := hK.2.2.2.2.2.2.2.2.2 p hp
  have hlq := hK.2.2.2.2.2.2.2.2.2 q hq
  obtain ⟨b1, f1, k1, k2, k3⟩ := id (k_str hK hp)
  refine r_aload_n hC dX3_isWithin_0 rfl (by first | rfl | exact zisR_rf _) ?_
  refine r_get hC 8 in_X3 (ci := 2) rfl (k_prj hK hp) (by decide) ⟨rfl, rfl, rfl⟩ q180 rfl dX3_isWithin_1 ?_
  refine r_aload_n hC dX3_isWithin_4 rfl (by first | rfl | exact zisR_rf _) ?_
  refine r_get hC 8 in_X3 (ci := 2) rfl (k_prj hK hq) (by decide) ⟨rfl, rfl, rfl⟩ q180 rfl dX3_isWithin_5 ?_
  refine r_callV hC (c_starts hst h hK.2.2.1.1 _ _ _ _ _ _ (k_str hK hp) (k_str hK hq) (by omega) hlq) k1 rfl q987 q988 q989 q39 q990 (n := 1) (by decide +kernel) rfl (Nat.le_of_ble_eq_true rfl) (Nat.le_of_ble_eq_true rfl) rfl (Nat.le_of_ble_eq_true rfl) (Nat.le_refl _) (Nat.le_refl _) dX3_isWithin_8 znx (zri ?_)
  exact r_zret hC hE rfl (by first | rfl | exact nB_nz _ | exact nar_ch (by omega) | assumption) dX3_isWithin_11 ⟨rfl, rfl⟩
theorem c_xin (hl : l.stackTraces = false) (v a b : Int32) : zM g l yX1_inRange (ws_ yX1_inRange cX1_inRange 3 (some .boolean)) 0 0 0 0 [.int v, .int a, .int b] h (zRi (.int (nB (decide (a ≤ v ∧ v ≤ b)))) h) zNx := by
  refine zM.of (cc := cX1_inRange) (nL := 3) (ret := (some .boolean)) (by decide) hl (zcat rfl) (Nat.le_of_ble_eq_true rfl) ?_
  intro Z hg hz hC hE hN
  subst hg
  subst hz
  change zW Z _ _ _ 0 [some _, some _, some _] []
  have hst := hC.2.2.2.2.2.2.2.1
  have k15 : zW Z h 0 0 15 [some (.int v), some (.int a), some (.int b)] [.int (nB (decide (a ≤ v ∧ v ≤ b)))] := by
    exact r_zret hC hE rfl (by first | rfl | exact nB_nz _ | exact nar_ch (by omega) | assumption) dX1_inRange_15 ⟨rfl, rfl⟩
  have kb := zbool hC dX1_inRange_10 dX1_inRange_11 dX1_inRange_14 rfl rfl (by decide) k15
  refine r_iload_n hC dX1_inRange_0 rfl ?_
  refine r_iload_n hC dX1_inRange_1 rfl ?_
  refine r_icmp_lt hC dX1_inRange_2 (tgt := 14) (by decide) (fun e1 => kb.2 (decide_eq_false (fun q => absurd e1 (Int32.not_lt.mpr q.1)))) (fun e1 => ?_)
  refine r_iload_n hC dX1_inRange_5 rfl ?_
  refine r_iload_n hC dX1_inRange_6 rfl ?_
  refine r_icmp_gt hC dX1_inRange_7 (tgt := 14) (by decide) (fun e2 => kb.2 (decide_eq_false (fun q => absurd e2 (Int32.not_lt.mpr q.2)))) (fun e2 => kb.1 (decide_eq_true ⟨Int32.not_lt.mp e1, Int32.not_lt.mp e2⟩))
theorem at_requireIndex : ∀ w ∈ vx_at0 "AllotmentLedger" 3 "java/lang/IndexOutOfBoundsException" ["java/lang/RuntimeException", "java/lang/Exception"], w ∈ lw_all ∨ (∃ q ∈ zDe, w = .declares q) ∨ ∃ q ∈ zCa, w = .castable q.1 q.2 := by
  intro w hw
  by_cases hg : goodWord w = true
  · exact Or.inl (lw_in ((vx_at0 "AllotmentLedger" 3 "java/lang/IndexOutOfBoundsException" ["java/lang/RuntimeException", "java/lang/Exception"]).filter goodWord) [51, 488, 497, 503, 506, 508, 489, 490, 75, 76, 491, 496, 504, 529, 478, 530, 480, 531, 482, 492, 494, 484, 978, 979, 980, 857, 857, 858, 859, 860, 860, 861, 862, 489, 977, 969, 971, 501, 972, 973, 974, 975, 487, 486, 976] (by decide +kernel) (by decide +kernel) w (List.mem_filter.mpr ⟨hw, hg⟩))
  · have h9 : ((vx_at0 "AllotmentLedger" 3 "java/lang/IndexOutOfBoundsException" ["java/lang/RuntimeException", "java/lang/Exception"]).filter (fun w => !goodWord w)).all (fun w => decide (w ∈ zDe.map Cond.declares ++ zCa.map (fun q => Cond.castable q.1 q.2))) = true := by decide +kernel
    have h8 := of_decide_eq_true (List.all_eq_true.mp h9 w (List.mem_filter.mpr ⟨hw, by simpa using hg⟩))
    rcases List.mem_append.mp h8 with h7 | h7
    · obtain ⟨q, h6, h5⟩ := List.mem_map.mp h7
      exact Or.inr (Or.inl ⟨q, h6, h5.symm⟩)
    · obtain ⟨q, h6, h5⟩ := List.mem_map.mp h7
      exact Or.inr (Or.inr ⟨q, h6, h5.symm⟩)
theorem c_rqI (hl : l.stackTraces = false) (b : Bool) : zM g l yX1_requireIndex (ws_ yX1_requireIndex cX1_requireIndex 1 none) 6 89 1 6 [.int (nB b)] h (fun u h' => u = none ∧ h' = h ∧ b = true) (zThr "java/lang/IndexOutOfBoundsException" h b) := by
  refine zM.of (cc := cX1_requireIndex) (nL := 1) (ret := none) (by decide) hl (zcat rfl) (Nat.le_of_ble_eq_true rfl) ?_
  intro Z hg hz hC hE hN
  subst hg
  subst hz
  change zW Z _ _ _ 0 [some _] []
  have hst := hC.2.2.2.2.2.2.2.1
  refine r_iload_n hC dX1_requireIndex_0 rfl ?_
  refine r_if_neB hC dX1_requireIndex_1 (tgt := 12) (by decide) (fun e => ?_) (fun e => ?_)
  · skip
    exact r_vret hC hE rfl dX1_requireIndex_12 ⟨rfl, rfl, e⟩
  · refine r_throw0 hC hE (cls := "java/lang/IndexOutOfBoundsException") (by decide) q968 q58 at_requireIndex dX1_requireIndex_4 dX1_requireIndex_7 dX1_requireIndex_8 dX1_requireIndex_11 (by decide) (by decide) (by decide) (by decide) ⟨rfl, rfl, e⟩
theorem at_requireArgument : ∀ w ∈ vx_at0 "AllotmentLedger" 9 "java/lang/IllegalArgumentException" ["java/lang/RuntimeException", "java/lang/Exception"], w ∈ lw_all ∨ (∃ q ∈ zDe, w = .declares q) ∨ ∃ q ∈ zCa, w = .castable q.1 q.2 := by
  intro w hw
  by_cases hg : goodWord w = true
  · exact Or.inl (lw_in ((vx_at0 "AllotmentLedger" 9 "java/lang/IllegalArgumentException" ["java/lang/RuntimeException", "java/lang/Exception"]).filter goodWord) [51, 488, 497, 503, 506, 508, 489, 490, 75, 76, 491, 496, 504, 529, 478, 530, 480, 531, 482, 492, 494, 484, 854, 855, 856, 857, 857, 858, 859, 860, 860, 861, 862, 489, 853, 467, 475, 476, 477, 479, 481, 483, 487, 486, 485] (by decide +kernel) (by decide +kernel) w (List.mem_filter.mpr ⟨hw, hg⟩))
  · have h9 : ((vx_at0 "AllotmentLedger" 9 "java/lang/IllegalArgumentException" ["java/lang/RuntimeException", "java/lang/Exception"]).filter (fun w => !goodWord w)).all (fun w => decide (w ∈ zDe.map Cond.declares ++ zCa.map (fun q => Cond.castable q.1 q.2))) = true := by decide +kernel
    have h8 := of_decide_eq_true (List.all_eq_true.mp h9 w (List.mem_filter.mpr ⟨hw, by simpa using hg⟩))
    rcases List.mem_append.mp h8 with h7 | h7
    · obtain ⟨q, h6, h5⟩ := List.mem_map.mp h7
      exact Or.inr (Or.inl ⟨q, h6, h5.symm⟩)
    · obtain ⟨q, h6, h5⟩ := List.mem_map.mp h7
      exact Or.inr (Or.inr ⟨q, h6, h5.symm⟩)
theorem c_rqA (hl : l.stackTraces = false) (b : Bool) : zM g l yX1_requireArgument (ws_ yX1_requireArgument cX1_requireArgument 1 none) 6 89 1 6 [.int (nB b)] h (fun u h' => u = none ∧ h' = h ∧ b = true) (zThr "java/lang/IllegalArgumentException" h b) := by
  refine zM.of (cc := cX1_requireArgument) (nL := 1) (ret := none) (by decide) hl (zcat rfl) (Nat.le_of_ble_eq_true rfl) ?_
  intro Z hg hz hC hE hN
  subst hg
  subst hz
  change zW Z _ _ _ 0 [some _] []
  have hst := hC.2.2.2.2.2.2.2.1
  refine r_iload_n hC dX1_requireArgument_0 rfl ?_
  refine r_if_neB hC dX1_requireArgument_1 (tgt := 12) (by decide) (fun e => ?_) (fun e => ?_)
  · skip
    exact r_vret hC hE rfl dX1_requireArgument_12 ⟨rfl, rfl, e⟩
  · refine r_throw0 hC hE (cls := "java/lang/IllegalArgumentException") (by decide) q852 q54 at_requireArgument dX1_requireArgument_4 dX1_requireArgument_7 dX1_requireArgument_8 dX1_requireArgument_11 (by decide) (by decide) (by decide) (by decide) ⟨rfl, rfl, e⟩
theorem at_requireState : ∀ w ∈ vx_at0 "AllotmentLedger" 12 "java/lang/IllegalStateException" ["java/lang/RuntimeException", "java/lang/Exception"], w ∈ lw_all ∨ (∃ q ∈ zDe, w = .declares q) ∨ ∃ q ∈ zCa, w = .castable q.1 q.2 := by
  intro w hw
  by_cases hg : goodWord w = true
  · exact Or.inl (lw_in ((vx_at0 "AllotmentLedger" 12 "java/lang/IllegalStateException" ["java/lang/RuntimeException", "java/lang/Exception"]).filter goodWord) [51, 488, 497, 503, 506, 508, 489, 490, 75, 76, 491, 496, 504, 529, 478, 530, 480, 531, 482, 492, 494, 484, 876, 877, 878, 857, 857, 858, 859, 860, 860, 861, 862, 489, 875, 867, 869, 500, 870, 871, 872, 873, 487, 486, 874] (by decide +kernel) (by decide +kernel) w (List.mem_filter.mpr ⟨hw, hg⟩))
  · have h9 : ((vx_at0 "AllotmentLedger" 12 "java/lang/IllegalStateException" ["java/lang/RuntimeException", "java/lang/Exception"]).filter (fun w => !goodWord w)).all (fun w => decide (w ∈ zDe.map Cond.declares ++ zCa.map (fun q => Cond.castable q.1 q.2))) = true := by decide +kernel
    have h8 := of_decide_eq_true (List.all_eq_true.mp h9 w (List.mem_filter.mpr ⟨hw, by simpa using hg⟩))
    rcases List.mem_append.mp h8 with h7 | h7
    · obtain ⟨q, h6, h5⟩ := List.mem_map.mp h7
      exact Or.inr (Or.inl ⟨q, h6, h5.symm⟩)
    · obtain ⟨q, h6, h5⟩ := List.mem_map.mp h7
      exact Or.inr (Or.inr ⟨q, h6, h5.symm⟩)
theorem c_rqS (hl : l.stackTraces = false) (b : Bool) : zM g l yX1_requireState (ws_ yX1_requireState cX1_requireState 1 none) 6 89 1 6 [.int (nB b)] h (fun u h' => u = none ∧ h' = h ∧ b = true) (zThr "java/lang/IllegalStateException" h b) := by
  refine zM.of (cc := cX1_requireState) (nL := 1) (ret := none) (by decide) hl (zcat rfl) (Nat.le_of_ble_eq_true rfl) ?_
  intro Z hg hz hC hE hN
  subst hg
  subst hz
  change zW Z _ _ _ 0 [some _] []
  have hst := hC.2.2.2.2.2.2.2.1
  refine r_iload_n hC dX1_requireState_0 rfl ?_
  refine r_if_neB hC dX1_requireState_1 (tgt := 12) (by decide) (fun e => ?_) (fun e => ?_)
  · skip
    exact r_vret hC hE rfl dX1_requireState_12 ⟨rfl, rfl, e⟩
  · refine r_throw0 hC hE (cls := "java/lang/IllegalStateException") (by decide) q866 q55 at_requireState dX1_requireState_4 dX1_requireState_7 dX1_requireState_8 dX1_requireState_11 (by decide) (by decide) (by decide) (by decide) ⟨rfl, rfl, e⟩
end X1

