/-! JDK 1: checks, Math, ArrayList -/
set_option maxRecDepth 100000
section JD1
variable {g : zG} {l : Launch}
theorem c_pcheckIndex (hl : l.stackTraces = false) (h : zH) (i n : Nat) (v : Value) (hv : zisR v = true) (hi : i < n) (hn : n < 2 ^ 31) : zM g l yJ16_checkIndex (ws_ yJ16_checkIndex cJ16_checkIndex 3 (some .int)) 0 0 0 0 [.int (nI i), .int (nI n), v] h (zRi (.int (nI i)) h) zNx := by
  refine zM.of (cc := cJ16_checkIndex) (nL := 3) (ret := (some .int)) (by decide) hl (by intro w hw; simp only [List.mem_cons, List.not_mem_nil, or_false] at hw; rcases hw with rfl | rfl | rfl <;> first | rfl | exact zcatR hv) (Nat.le_of_ble_eq_true rfl) ?_
  intro Z hg hz hC hE hN
  subst hg
  subst hz
  change zW Z _ _ _ 0 [some _, some _, some _] []
  have hst := hC.2.2.2.2.2.2.2.1
  refine r_iload_n hC dJ16_checkIndex_0 rfl ?_
  refine r_if_lt hC dJ16_checkIndex_1 (tgt := 9) (by decide) (fun e => ?_) (fun e => ?_)
  · exact absurd e (nI_pos (by omega))
  · refine r_iload_n hC dJ16_checkIndex_4 rfl ?_
    refine r_iload_n hC dJ16_checkIndex_5 rfl ?_
    refine r_icmp_ltN hC dJ16_checkIndex_6 (tgt := 16) (by decide) (by omega) hn (fun e => ?_) (fun e => by omega)
    refine r_iload_n hC dJ16_checkIndex_16 rfl ?_
    exact r_iret hC hE rfl dJ16_checkIndex_17 ⟨rfl, rfl⟩
theorem c_pcheckFT (hl : l.stackTraces = false) (h : zH) (i j n : Nat) (v : Value) (hv : zisR v = true) (hi : i ≤ j) (hj : j ≤ n) (hn : n < 2 ^ 31) : zM g l yJ16_checkFromToIndex (ws_ yJ16_checkFromToIndex cJ16_checkFromToIndex 4 (some .int)) 0 0 0 0 [.int (nI i), .int (nI j), .int (nI n), v] h (zRi (.int (nI i)) h) zNx := by
  refine zM.of (cc := cJ16_checkFromToIndex) (nL := 4) (ret := (some .int)) (by decide) hl (by intro w hw; simp only [List.mem_cons, List.not_mem_nil, or_false] at hw; rcases hw with rfl | rfl | rfl | rfl <;> first | rfl | exact zcatR hv) (Nat.le_of_ble_eq_true rfl) ?_
  intro Z hg hz hC hE hN
  subst hg
  subst hz
  change zW Z _ _ _ 0 [some _, some _, some _, some _] []
  have hst := hC.2.2.2.2.2.2.2.1
  refine r_iload_n hC dJ16_checkFromToIndex_0 rfl ?_
  refine r_if_lt hC dJ16_checkFromToIndex_1 (tgt := 14) (by decide) (fun e => ?_) (fun e => ?_)
  · exact absurd e (nI_pos (by omega))
  · refine r_iload_n hC dJ16_checkFromToIndex_4 rfl ?_
    refine r_iload_n hC dJ16_checkFromToIndex_5 rfl ?_
    refine r_icmp_gtN hC dJ16_checkFromToIndex_6 (tgt := 14) (by decide) (by omega) (by omega) (fun e => by omega) (fun e => ?_)
    refine r_iload_n hC dJ16_checkFromToIndex_9 rfl ?_
    refine r_iload_n hC dJ16_checkFromToIndex_10 rfl ?_
    refine r_icmp_leN hC dJ16_checkFromToIndex_11 (tgt := 22) (by decide) (by omega) (by omega) (fun e => ?_) (fun e => by omega)
    refine r_iload_n hC dJ16_checkFromToIndex_22 rfl ?_
    exact r_iret hC hE rfl dJ16_checkFromToIndex_23 ⟨rfl, rfl⟩
theorem c_ocheckIndex (hl : l.stackTraces = false) (h : zH) (i n : Nat) (hi : i < n) (hn : n < 2 ^ 31) : zM g l yJ21_checkIndex (ws_ yJ21_checkIndex cJ21_checkIndex 2 (some .int)) 1 22 0 0 [.int (nI i), .int (nI n)] h (zRi (.int (nI i)) h) zNx := by
  refine zM.of (cc := cJ21_checkIndex) (nL := 2) (ret := (some .int)) (by decide) hl (zcat rfl) (Nat.le_of_ble_eq_true rfl) ?_
  intro Z hg hz hC hE hN
  subst hg
  subst hz
  change zW Z _ _ _ 0 [some _, some _] []
  have hst := hC.2.2.2.2.2.2.2.1
  refine r_iload_n hC dJ21_checkIndex_0 rfl ?_
  refine r_iload_n hC dJ21_checkIndex_1 rfl ?_
  refine r_null hC dJ21_checkIndex_2 ?_
  refine r_callS hC (c_pcheckIndex hst h i n .null rfl hi hn) q633 q634 q57 q635 (n := 3) (by decide +kernel) rfl (Nat.le_of_ble_eq_true rfl) (Nat.le_of_ble_eq_true rfl) rfl (Nat.le_of_ble_eq_true rfl) (Nat.le_refl _) (Nat.le_refl _) dJ21_checkIndex_3 znx (zri ?_)
  exact r_iret hC hE rfl dJ21_checkIndex_6 ⟨rfl, rfl⟩
theorem c_scheckIndex (hl : l.stackTraces = false) (h : zH) (i n : Nat) (hi : i < n) (hn : n < 2 ^ 31) : zM g l yJ2_checkIndex (ws_ yJ2_checkIndex cJ2_checkIndex 2 none) 1 22 0 0 [.int (nI i), .int (nI n)] h (zRv h) zNx := by
  refine zM.of (cc := cJ2_checkIndex) (nL := 2) (ret := none) (by decide) hl (zcat rfl) (Nat.le_of_ble_eq_true rfl) ?_
  intro Z hg hz hC hE hN
  subst hg
  subst hz
  change zW Z _ _ _ 0 [some _, some _] []
  have hst := hC.2.2.2.2.2.2.2.1
  refine r_iload_n hC dJ2_checkIndex_0 rfl ?_
  refine r_iload_n hC dJ2_checkIndex_1 rfl ?_
  refine r_getsq hC (zk_si hC) q355 dJ2_checkIndex_2 (fun v9 hv9 => ?_)
  refine r_callS hC (c_pcheckIndex hst h i n v9 hv9 hi hn) q802 q634 q57 q635 (n := 3) (by decide +kernel) rfl (Nat.le_of_ble_eq_true rfl) (Nat.le_of_ble_eq_true rfl) rfl (Nat.le_of_ble_eq_true rfl) (Nat.le_refl _) (Nat.le_refl _) dJ2_checkIndex_5 znx (zri ?_)
  refine r_pop hC dJ2_checkIndex_8 (by first | rfl | exact zcat1 _) ?_
  exact r_vret hC hE rfl dJ2_checkIndex_9 ⟨rfl, rfl⟩
theorem c_scheckOffset (hl : l.stackTraces = false) (h : zH) (i n : Nat) (hi : i ≤ n) (hn : n < 2 ^ 31) : zM g l yJ2_checkOffset (ws_ yJ2_checkOffset cJ2_checkOffset 2 none) 1 23 0 0 [.int (nI i), .int (nI n)] h (zRv h) zNx := by
  refine zM.of (cc := cJ2_checkOffset) (nL := 2) (ret := none) (by decide) hl (zcat rfl) (Nat.le_of_ble_eq_true rfl) ?_
  intro Z hg hz hC hE hN
  subst hg
  subst hz
  change zW Z _ _ _ 0 [some _, some _] []
  have hst := hC.2.2.2.2.2.2.2.1
  refine r_iload_n hC dJ2_checkOffset_0 rfl ?_
  refine r_iload_n hC dJ2_checkOffset_1 rfl ?_
  refine r_iload_n hC dJ2_checkOffset_2 rfl ?_
  refine r_getsq hC (zk_si hC) q355 dJ2_checkOffset_3 (fun v9 hv9 => ?_)
  refine r_callS hC (c_pcheckFT hst h i n n v9 hv9 hi (Nat.le_refl _) hn) q357 q358 q57 q359 (n := 4) (by decide +kernel) rfl (Nat.le_of_ble_eq_true rfl) (Nat.le_of_ble_eq_true rfl) rfl (Nat.le_of_ble_eq_true rfl) (Nat.le_refl _) (Nat.le_refl _) dJ2_checkOffset_6 znx (zri ?_)
  refine r_pop hC dJ2_checkOffset_9 (by first | rfl | exact zcat1 _) ?_
  exact r_vret hC hE rfl dJ2_checkOffset_10 ⟨rfl, rfl⟩
theorem c_newLength (hl : l.stackTraces = false) (h : zH) (o m p : Nat) (h0 : 0 < m) (h1 : o < 1000) (h2 : m < 1000) (h3 : p < 1000) : zM g l yJ7_newLength (ws_ yJ7_newLength cJ7_newLength 4 (some .int)) 1 21 0 0 [.int (nI o), .int (nI m), .int (nI p)] h (zRi (.int (nI (o + if m < p then p else m))) h) zNx := by
  refine zM.of (cc := cJ7_newLength) (nL := 4) (ret := (some .int)) (by decide) hl (zcat rfl) (Nat.le_of_ble_eq_true rfl) ?_
  intro Z hg hz hC hE hN
  subst hg
  subst hz
  change zW Z _ _ _ 0 [some _, some _, some _, none] []
  have hst := hC.2.2.2.2.2.2.2.1
  refine r_iload_n hC dJ7_newLength_0 rfl ?_
  refine r_iload_n hC dJ7_newLength_1 rfl ?_
  refine r_iload_n hC dJ7_newLength_2 rfl ?_
  refine r_max hC q213 q214 q47 q215 (Nat.le_of_ble_eq_true rfl) (Nat.le_of_ble_eq_true rfl) (Nat.le_of_ble_eq_true rfl) dJ7_newLength_3 ?_
  rw [zmax_nI (by omega) (by omega)]
  first | refine r_iaddN hC dJ7_newLength_6 ?_ | refine r_iadd hC dJ7_newLength_6 ?_
  refine r_ist3 hC dJ7_newLength_7 ?_
  refine r_iconst hC dJ7_newLength_8 (v := (nI 0)) (by decide) ?_
  refine r_iload_n hC dJ7_newLength_9 rfl ?_
  have hlt : o + (if m < p then p else m) < 2000 := by split <;> omega
  have hp : 0 < o + (if m < p then p else m) := by split <;> omega
  generalize o + (if m < p then p else m) = t at hlt hp hE
  refine r_icmp_geN hC dJ7_newLength_10 (tgt := 21) (by decide) (by omega) (by omega) (fun e => by omega) (fun e => ?_)
  refine r_iload_n hC dJ7_newLength_13 rfl ?_
  refine r_ldc hC (v := 2147483639) q216 dJ7_newLength_14 ?_
  refine r_icmp_gt hC dJ7_newLength_16 (tgt := 21) (by decide) (fun e => ?_) (fun e => ?_)
  · exfalso
    have e' : (2147483639 : Int32) = nI 2147483639 := rfl
    rw [e'] at e
    have := (nI_ltI (Nat.le_of_ble_eq_true rfl) (by omega : t < 2 ^ 31)).mp e
    omega
  · refine r_iload_n hC dJ7_newLength_19 rfl ?_
    exact r_iret hC hE rfl dJ7_newLength_20 ⟨rfl, rfl⟩
theorem c_lsize (hl : l.stackTraces = false) (h : zH) (b e n : Nat) (mc : Int32) (hb : h b = some (.inr (8, [.int mc, .ref e, .int (nI n)]))) : zM g l yJ6_size (ws_ yJ6_size cJ6_size 1 (some .int)) 0 0 0 0 [.ref b] h (zRi (.int (nI n)) h) zNx := by
  refine zM.of (cc := cJ6_size) (nL := 1) (ret := (some .int)) (by decide) hl (zcat rfl) (Nat.le_of_ble_eq_true rfl) ?_
  intro Z hg hz hC hE hN
  subst hg
  subst hz
  change zW Z _ _ _ 0 [some _] []
  have hst := hC.2.2.2.2.2.2.2.1
  refine r_aload_n hC dJ6_size_0 rfl (by first | rfl | exact zisR_rf _) ?_
  refine r_get hC 2 in_J6 (ci := 8) rfl (by assumption) (by decide) ⟨rfl, rfl, rfl⟩ q127 rfl dJ6_size_1 ?_
  exact r_iret hC hE rfl dJ6_size_4 ⟨rfl, rfl⟩
theorem c_lelem (hl : l.stackTraces = false) (h : zH) (b e n c i : Nat) (f : Nat → Value) (mc : Int32) (hb : h b = some (.inr (8, [.int mc, .ref e, .int (nI n)]))) (he : h e = some (.inl (5, c, f))) (hi : i < c) (hc : c < 2 ^ 31) (hv : zisR (f i) = true) : zM g l yJ6_elementData (ws_ yJ6_elementData cJ6_elementData 2 (some (.object "java/lang/Object"))) 0 0 0 0 [.ref b, .int (nI i)] h (zRi (f i) h) zNx := by
  refine zM.of (cc := cJ6_elementData) (nL := 2) (ret := (some (.object "java/lang/Object"))) (by decide) hl (zcat rfl) (Nat.le_of_ble_eq_true rfl) ?_
  intro Z hg hz hC hE hN
  subst hg
  subst hz
  change zW Z _ _ _ 0 [some _, some _] []
  have hst := hC.2.2.2.2.2.2.2.1
  refine r_aload_n hC dJ6_elementData_0 rfl (by first | rfl | exact zisR_rf _) ?_
  refine r_get hC 1 in_J6 (ci := 8) rfl (by assumption) (by decide) ⟨rfl, rfl, rfl⟩ q126 rfl dJ6_elementData_1 ?_
  refine r_iload_n hC dJ6_elementData_4 rfl ?_
  refine r_ald hC 5 he (vp_in_nI hi hc) (v := f i) (by rw [nI_clamp (by omega)]) dJ6_elementData_5 (by simp) ?_
  exact r_aret hC hE rfl (Or.inl ⟨_, rfl⟩) hv dJ6_elementData_6 ⟨rfl, rfl⟩
theorem c_lget (hl : l.stackTraces = false) (h : zH) (b e n c i : Nat) (f : Nat → Value) (mc : Int32) (hb : h b = some (.inr (8, [.int mc, .ref e, .int (nI n)]))) (he : h e = some (.inl (5, c, f))) (hi : i < n) (hnc : n ≤ c) (hc : c < 2 ^ 31) (hv : zisR (f i) = true) : zM g l yJ6_get (ws_ yJ6_get cJ6_get 2 (some (.object "java/lang/Object"))) 2 43 0 0 [.ref b, .int (nI i)] h (zRi (f i) h) zNx := by
  refine zM.of (cc := cJ6_get) (nL := 2) (ret := (some (.object "java/lang/Object"))) (by decide) hl (zcat rfl) (Nat.le_of_ble_eq_true rfl) ?_
  intro Z hg hz hC hE hN
  subst hg
  subst hz
  change zW Z _ _ _ 0 [some _, some _] []
  have hst := hC.2.2.2.2.2.2.2.1
  refine r_iload_n hC dJ6_get_0 rfl ?_
  refine r_aload_n hC dJ6_get_1 rfl (by first | rfl | exact zisR_rf _) ?_
  refine r_get hC 2 in_J6 (ci := 8) rfl (by assumption) (by decide) ⟨rfl, rfl, rfl⟩ q127 rfl dJ6_get_2 ?_
  refine r_callS hC (c_ocheckIndex hst h i n hi (by omega)) q630 q631 q63 q632 (n := 2) (by decide +kernel) rfl (Nat.le_of_ble_eq_true rfl) (Nat.le_of_ble_eq_true rfl) rfl (Nat.le_of_ble_eq_true rfl) (Nat.le_refl _) (Nat.le_refl _) dJ6_get_5 znx (zri ?_)
  refine r_pop hC dJ6_get_8 (by first | rfl | exact zcat1 _) ?_
  refine r_aload_n hC dJ6_get_9 rfl (by first | rfl | exact zisR_rf _) ?_
  refine r_iload_n hC dJ6_get_10 rfl ?_
  refine r_callV hC (c_lelem hst h b e n c i f mc hb he (by omega) hc hv) hb rfl q636 q637 q638 q43 q639 (n := 1) (by decide +kernel) rfl (Nat.le_of_ble_eq_true rfl) (Nat.le_of_ble_eq_true rfl) rfl (Nat.le_of_ble_eq_true rfl) (Nat.le_refl _) (Nat.le_refl _) dJ6_get_11 znx (zri ?_)
  exact r_aret hC hE rfl (Or.inl ⟨_, rfl⟩) hv dJ6_get_14 ⟨rfl, rfl⟩
theorem c_acInit (hl : l.stackTraces = false) (h : zH) (b : Nat) : zM g l yJ4_init (ws_ yJ4_init cJ4_init 1 none) 1 20 0 0 [.ref b] h (zRv h) zNx := by
  refine zM.of (cc := cJ4_init) (nL := 1) (ret := none) (by decide) hl (zcat rfl) (Nat.le_of_ble_eq_true rfl) ?_
  intro Z hg hz hC hE hN
  subst hg
  subst hz
  change zW Z _ _ _ 0 [some _] []
  have hst := hC.2.2.2.2.2.2.2.1
  refine r_aload_n hC dJ4_init_0 rfl (by first | rfl | exact zisR_rf _) ?_
  refine r_objInit hC q123 q75 q76 dJ4_init_1 (Nat.le_of_ble_eq_true rfl) (Nat.le_of_ble_eq_true rfl) (Nat.le_of_ble_eq_true rfl) ?_
  exact r_vret hC hE rfl dJ4_init_4 ⟨rfl, rfl⟩
theorem c_alInit (hl : l.stackTraces = false) (h : zH) (b : Nat) (v : Value) (hA : zA g b) (hb : h b = some (.inr (8, [v, .null, .int 0]))) : zM g l yJ5_init (ws_ yJ5_init cJ5_init 1 none) 2 40 0 0 [.ref b] h (zRv (zup h b (.inr (8, [.int 0, .null, .int 0])))) zNx := by
  refine zM.of (cc := cJ5_init) (nL := 1) (ret := none) (by decide) hl (zcat rfl) (Nat.le_of_ble_eq_true rfl) ?_
  intro Z hg hz hC hE hN
  subst hg
  subst hz
  change zW Z _ _ _ 0 [some _] []
  have hst := hC.2.2.2.2.2.2.2.1
  refine r_aload_n hC dJ5_init_0 rfl (by first | rfl | exact zisR_rf _) ?_
  refine r_callI hC (c_acInit hst h b) q120 q121 q41 q122 rfl (n := 0) (by decide +kernel) rfl (Nat.le_of_ble_eq_true rfl) (Nat.le_of_ble_eq_true rfl) rfl (Nat.le_of_ble_eq_true rfl) (Nat.le_refl _) (Nat.le_refl _) dJ5_init_1 znx (zrv ?_)
  refine r_aload_n hC dJ5_init_4 rfl (by first | rfl | exact zisR_rf _) ?_
  refine r_iconst hC dJ5_init_5 (v := (nI 0)) (by decide) ?_
  refine r_put hC 0 in_J6 tyJ6 tyJ6_ok nmJ6 (ci := 8) rfl (by assumption) (by assumption) (by decide) ⟨rfl, rfl, rfl, rfl⟩ q128 (by decide +kernel : parseFieldDescriptor "I" = some (.int)) rfl rfl (by simp) rfl dJ5_init_6 ?_
  exact r_vret hC hE rfl dJ5_init_9 ⟨rfl, rfl⟩
theorem c_lInit (hl : l.stackTraces = false) (h : zH) (b : Nat) (hA : zA g b) (hb : h b = some (.inr (8, [.int 0, .null, .int 0]))) : zM g l yJ6_init (ws_ yJ6_init cJ6_init 1 none) 3 60 0 0 [.ref b] h (zRv (zup h b (.inr (8, [.int 0, .ref g.2.2.2.2.2.1, .int 0])))) zNx := by
  refine zM.of (cc := cJ6_init) (nL := 1) (ret := none) (by decide) hl (zcat rfl) (Nat.le_of_ble_eq_true rfl) ?_
  intro Z hg hz hC hE hN
  subst hg
  subst hz
  change zW Z _ _ _ 0 [some _] []
  have hst := hC.2.2.2.2.2.2.2.1
  refine r_aload_n hC dJ6_init_0 rfl (by first | rfl | exact zisR_rf _) ?_
  refine r_callI hC (c_alInit hst h b (.int 0) hA hb) q117 q118 q42 q119 rfl (n := 0) (by decide +kernel) rfl (Nat.le_of_ble_eq_true rfl) (Nat.le_of_ble_eq_true rfl) rfl (Nat.le_of_ble_eq_true rfl) (Nat.le_refl _) (Nat.le_refl _) dJ6_init_1 znx (zrv ?_)
  refine r_aload_n hC dJ6_init_4 rfl (by first | rfl | exact zisR_rf _) ?_
  refine r_gets hC (zk_de hC) q124 dJ6_init_5 ?_
  refine r_put hC 1 in_J6 tyJ6 tyJ6_ok nmJ6 (ci := 8) rfl (by assumption) zup_s (by decide) ⟨rfl, rfl, rfl, rfl⟩ q126 (by decide +kernel : parseFieldDescriptor "[Ljava/lang/Object;" = some (.array (.object "java/lang/Object"))) rfl rfl (by simp) rfl dJ6_init_8 ?_
  rw [zup_zup]
  exact r_vret hC hE rfl dJ6_init_11 ⟨rfl, rfl⟩
end JD1

