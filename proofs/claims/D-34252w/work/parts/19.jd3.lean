/-! JDK 3: Strings and builders, Latin-1, no growth -/
set_option maxRecDepth 100000
theorem nI_b1 : ∀ c, c < 128 → (nI c).toInt8.toInt32 = nI c := by decide +kernel
theorem nI_b2 : ∀ c, c < 128 → narrow .byte (.int (nI c)) = .int (nI c) := fun c hc => congrArg Value.int (nI_b1 c hc)
theorem nI_b3 : ∀ c, c < 128 → fits .byte (.int (nI c)) = true := by decide +kernel
theorem nI_b4 : ∀ c, c < 128 → nI c &&& nI 255 = nI c := by decide +kernel
theorem nI_b5 : ∀ c, c < 128 → ((nI c).toUInt32 % 65536).toInt32 = nI c := by decide +kernel
/-- the first n places hold the bytes w -/
def zBy (f : Nat → Value) (w : Nat → Nat) (n : Nat) : Prop := ∀ j, j < n → w j < 128 ∧ f j = .int (nI (w j))
theorem zBy.el {f : Nat → Value} {w : Nat → Nat} {n : Nat} (hb : zBy f w n) {j : Nat} (hj : j < n) : fits .byte (f j) = true ∧ ∃ x, f j = .int x := by
  obtain ⟨h1, h2⟩ := hb j hj
  rw [h2]
  exact ⟨nI_b3 _ h1, _, rfl⟩
theorem zBy.cpy {f g : Nat → Value} {w v : Nat → Nat} {n m sp dp k : Nat} (hf : zBy f w n) (hg : zBy g v m) (hs : sp + k ≤ n) : zBy (va_cpy f g sp dp k) (fun j => if dp ≤ j ∧ j < dp + k then w (sp + (j - dp)) else v j) m := by
  intro j hj
  unfold va_cpy
  by_cases c : dp ≤ j ∧ j < dp + k
  · simp only [c, and_self, if_true]
    exact hf _ (by omega)
  · simp only [c, if_false]
    exact hg j hj
theorem zBy.le {f : Nat → Value} {w : Nat → Nat} {n m : Nat} (hb : zBy f w n) (h : m ≤ n) : zBy f w m := fun j hj => hb j (by omega)
theorem zBy.z {n : Nat} : zBy (fun _ => .int 0) (fun _ => 0) n := fun j _ => ⟨Nat.zero_lt_succ _, rfl⟩
theorem nI_suble {a b : Nat} (h : a ≤ b) (hb : b < 2 ^ 30) : nI a - nI b ≤ 0 := by
  rw [Int32.le_iff_toInt_le, pk_sub_toInt (by omega) hb]
  show _ ≤ (0 : Int)
  omega
theorem nI_sh0 {a : Nat} (ha : a < 2 ^ 31) : nI a >>> ((0 : Int32) &&& 31) = nI a := by
  have := nI_shr1 (a := a) (k := 0) ha (by decide)
  simpa using this
theorem nI_sl0 {a : Int32} : a <<< ((0 : Int32) &&& 31) = a := by
  have h0 : ((0 : Int32) &&& 31) = 0 := by decide
  rw [h0]; simp
section JD3
variable {g : zG} {l : Launch}
theorem c_coder (hl : l.stackTraces = false) (h : zH) (q b : Nat) (hq : h q = some (.inr (7, [.ref b, .int 0]))) : zM g l yJ2_coder (ws_ yJ2_coder cJ2_coder 1 (some .byte)) 0 0 0 0 [.ref q] h (zRi (.int 0) h) zNx := by
  refine zM.of (cc := cJ2_coder) (nL := 1) (ret := (some .byte)) (by decide) hl (zcat rfl) (Nat.le_of_ble_eq_true rfl) ?_
  intro Z hg hz hC hE hN
  subst hg
  subst hz
  change zW Z _ _ _ 0 [some _] []
  have hst := hC.2.2.2.2.2.2.2.1
  refine r_gets hC (zk_cs hC) q377 dJ2_coder_0 ?_
  refine r_if_eq hC dJ2_coder_3 (tgt := 13) (by decide) (fun e => absurd e (by decide)) (fun _ => ?_)
  refine r_aload_n hC dJ2_coder_6 rfl (by first | rfl | exact zisR_rf _) ?_
  refine r_get hC 1 in_J2b (ci := 7) rfl (by assumption) (by decide) ⟨rfl, rfl, rfl⟩ q554 rfl dJ2_coder_7 ?_
  refine r_goto hC dJ2_coder_10 (tgt := 14) (by decide) ?_
  exact r_zret hC hE rfl (by first | rfl | exact nB_nz _ | exact nar_ch (by omega) | assumption) dJ2_coder_14 ⟨rfl, rfl⟩
theorem c_sLat (hl : l.stackTraces = false) (h : zH) (q b : Nat) (hq : h q = some (.inr (7, [.ref b, .int 0]))) : zM g l yJ2_isLatin1 (ws_ yJ2_isLatin1 cJ2_isLatin1 1 (some .boolean)) 0 0 0 0 [.ref q] h (zRi (.int 1) h) zNx := by
  refine zM.of (cc := cJ2_isLatin1) (nL := 1) (ret := (some .boolean)) (by decide) hl (zcat rfl) (Nat.le_of_ble_eq_true rfl) ?_
  intro Z hg hz hC hE hN
  subst hg
  subst hz
  change zW Z _ _ _ 0 [some _] []
  have hst := hC.2.2.2.2.2.2.2.1
  refine r_gets hC (zk_cs hC) q377 dJ2_isLatin1_0 ?_
  refine r_if_eq hC dJ2_isLatin1_3 (tgt := 17) (by decide) (fun e => absurd e (by decide)) (fun _ => ?_)
  refine r_aload_n hC dJ2_isLatin1_6 rfl (by first | rfl | exact zisR_rf _) ?_
  refine r_get hC 1 in_J2b (ci := 7) rfl (by assumption) (by decide) ⟨rfl, rfl, rfl⟩ q554 rfl dJ2_isLatin1_7 ?_
  refine r_if_ne hC dJ2_isLatin1_10 (tgt := 17) (by decide) (fun e => absurd rfl e) (fun _ => ?_)
  refine r_iconst hC dJ2_isLatin1_13 (v := (nI 1)) (by decide) ?_
  refine r_goto hC dJ2_isLatin1_14 (tgt := 18) (by decide) ?_
  exact r_zret hC hE rfl (by first | rfl | exact nB_nz _ | exact nar_ch (by omega) | assumption) dJ2_isLatin1_18 ⟨rfl, rfl⟩
theorem c_slen (hl : l.stackTraces = false) (h : zH) (q b n : Nat) (f : Nat → Value) (hq : h q = some (.inr (7, [.ref b, .int 0]))) (hb : h b = some (.inl (4, n, f))) (hn : n < 2 ^ 30) : zM g l yJ2_length (ws_ yJ2_length cJ2_length 1 (some .int)) 1 20 0 0 [.ref q] h (zRi (.int (nI n)) h) zNx := by
  refine zM.of (cc := cJ2_length) (nL := 1) (ret := (some .int)) (by decide) hl (zcat rfl) (Nat.le_of_ble_eq_true rfl) ?_
  intro Z hg hz hC hE hN
  subst hg
  subst hz
  change zW Z _ _ _ 0 [some _] []
  have hst := hC.2.2.2.2.2.2.2.1
  refine r_aload_n hC dJ2_length_0 rfl (by first | rfl | exact zisR_rf _) ?_
  refine r_get hC 0 in_J2b (ci := 7) rfl (by assumption) (by decide) ⟨rfl, rfl, rfl⟩ q553 rfl dJ2_length_1 ?_
  refine r_alen hC dJ2_length_4 (by assumption) ?_
  refine r_aload_n hC dJ2_length_5 rfl (by first | rfl | exact zisR_rf _) ?_
  refine r_callV hC (c_coder hst h q b hq) hq rfl q373 q374 q375 q39 q376 (n := 0) (by decide +kernel) rfl (Nat.le_of_ble_eq_true rfl) (Nat.le_of_ble_eq_true rfl) rfl (Nat.le_of_ble_eq_true rfl) (Nat.le_refl _) (Nat.le_refl _) dJ2_length_6 znx (zri ?_)
  refine r_ishr hC dJ2_length_9 ?_
  rw [nI_sh0 (by omega)]
  exact r_iret hC hE rfl dJ2_length_10 ⟨rfl, rfl⟩
theorem c_bLat (hl : l.stackTraces = false) (h : zH) (q b : Nat) (m k : Int32) (hq : h q = some (.inr (6, [.ref b, .int 0, .int m, .int k]))) : zM g l yJ0_isLatin1 (ws_ yJ0_isLatin1 cJ0_isLatin1 1 (some .boolean)) 0 0 0 0 [.ref q] h (zRi (.int 1) h) zNx := by
  refine zM.of (cc := cJ0_isLatin1) (nL := 1) (ret := (some .boolean)) (by decide) hl (zcat rfl) (Nat.le_of_ble_eq_true rfl) ?_
  intro Z hg hz hC hE hN
  subst hg
  subst hz
  change zW Z _ _ _ 0 [some _] []
  have hst := hC.2.2.2.2.2.2.2.1
  refine r_gets hC (zk_cs hC) q86 dJ0_isLatin1_0 ?_
  refine r_if_eq hC dJ0_isLatin1_3 (tgt := 17) (by decide) (fun e => absurd e (by decide)) (fun _ => ?_)
  refine r_aload_n hC dJ0_isLatin1_6 rfl (by first | rfl | exact zisR_rf _) ?_
  refine r_get hC 1 in_J1 (ci := 6) rfl (by assumption) (by decide) ⟨rfl, rfl, rfl⟩ q96 rfl dJ0_isLatin1_7 ?_
  refine r_if_ne hC dJ0_isLatin1_10 (tgt := 17) (by decide) (fun e => absurd rfl e) (fun _ => ?_)
  refine r_iconst hC dJ0_isLatin1_13 (v := (nI 1)) (by decide) ?_
  refine r_goto hC dJ0_isLatin1_14 (tgt := 18) (by decide) ?_
  exact r_zret hC hE rfl (by first | rfl | exact nB_nz _ | exact nar_ch (by omega) | assumption) dJ0_isLatin1_18 ⟨rfl, rfl⟩
theorem c_bCoder (hl : l.stackTraces = false) (h : zH) (q b : Nat) (m k : Int32) (hq : h q = some (.inr (6, [.ref b, .int 0, .int m, .int k]))) : zM g l yJ0_getCoder (ws_ yJ0_getCoder cJ0_getCoder 1 (some .byte)) 0 0 0 0 [.ref q] h (zRi (.int 0) h) zNx := by
  refine zM.of (cc := cJ0_getCoder) (nL := 1) (ret := (some .byte)) (by decide) hl (zcat rfl) (Nat.le_of_ble_eq_true rfl) ?_
  intro Z hg hz hC hE hN
  subst hg
  subst hz
  change zW Z _ _ _ 0 [some _] []
  have hst := hC.2.2.2.2.2.2.2.1
  refine r_gets hC (zk_cs hC) q86 dJ0_getCoder_0 ?_
  refine r_if_eq hC dJ0_getCoder_3 (tgt := 13) (by decide) (fun e => absurd e (by decide)) (fun _ => ?_)
  refine r_aload_n hC dJ0_getCoder_6 rfl (by first | rfl | exact zisR_rf _) ?_
  refine r_get hC 1 in_J1 (ci := 6) rfl (by assumption) (by decide) ⟨rfl, rfl, rfl⟩ q96 rfl dJ0_getCoder_7 ?_
  refine r_goto hC dJ0_getCoder_10 (tgt := 14) (by decide) ?_
  exact r_zret hC hE rfl (by first | rfl | exact nB_nz _ | exact nar_ch (by omega) | assumption) dJ0_getCoder_14 ⟨rfl, rfl⟩
theorem c_bVal (hl : l.stackTraces = false) (h : zH) (q b : Nat) (m k : Int32) (hq : h q = some (.inr (6, [.ref b, .int 0, .int m, .int k]))) : zM g l yJ0_getValue (ws_ yJ0_getValue cJ0_getValue 1 (some (.array .byte))) 0 0 0 0 [.ref q] h (zRi (.ref b) h) zNx := by
  refine zM.of (cc := cJ0_getValue) (nL := 1) (ret := (some (.array .byte))) (by decide) hl (zcat rfl) (Nat.le_of_ble_eq_true rfl) ?_
  intro Z hg hz hC hE hN
  subst hg
  subst hz
  change zW Z _ _ _ 0 [some _] []
  have hst := hC.2.2.2.2.2.2.2.1
  refine r_aload_n hC dJ0_getValue_0 rfl (by first | rfl | exact zisR_rf _) ?_
  refine r_get hC 0 in_J1 (ci := 6) rfl (by assumption) (by decide) ⟨rfl, rfl, rfl⟩ q95 rfl dJ0_getValue_1 ?_
  exact r_aret hC hE rfl (by first | exact Or.inl ⟨_, rfl⟩ | exact Or.inr ⟨_, rfl⟩) (by first | rfl | exact zisR_rf _) dJ0_getValue_4 ⟨rfl, rfl⟩
theorem c_bLen0 (hl : l.stackTraces = false) (h : zH) (q b : Nat) (m k : Int32) (hq : h q = some (.inr (6, [.ref b, .int 0, .int m, .int k]))) : zM g l yJ0_length (ws_ yJ0_length cJ0_length 1 (some .int)) 0 0 0 0 [.ref q] h (zRi (.int k) h) zNx := by
  refine zM.of (cc := cJ0_length) (nL := 1) (ret := (some .int)) (by decide) hl (zcat rfl) (Nat.le_of_ble_eq_true rfl) ?_
  intro Z hg hz hC hE hN
  subst hg
  subst hz
  change zW Z _ _ _ 0 [some _] []
  have hst := hC.2.2.2.2.2.2.2.1
  refine r_aload_n hC dJ0_length_0 rfl (by first | rfl | exact zisR_rf _) ?_
  refine r_get hC 3 in_J1 (ci := 6) rfl (by assumption) (by decide) ⟨rfl, rfl, rfl⟩ q99 rfl dJ0_length_1 ?_
  exact r_iret hC hE rfl dJ0_length_4 ⟨rfl, rfl⟩
theorem c_bLen (hl : l.stackTraces = false) (h : zH) (q b : Nat) (m k : Int32) (hq : h q = some (.inr (6, [.ref b, .int 0, .int m, .int k]))) : zM g l yJ1_length (ws_ yJ1_length cJ1_length 1 (some .int)) 1 20 0 0 [.ref q] h (zRi (.int k) h) zNx := by
  refine zM.of (cc := cJ1_length) (nL := 1) (ret := (some .int)) (by decide) hl (zcat rfl) (Nat.le_of_ble_eq_true rfl) ?_
  intro Z hg hz hC hE hN
  subst hg
  subst hz
  change zW Z _ _ _ 0 [some _] []
  have hst := hC.2.2.2.2.2.2.2.1
  refine r_aload_n hC dJ1_length_0 rfl (by first | rfl | exact zisR_rf _) ?_
  refine r_callSU hC (c_bLen0 hst h q b m k hq) hq rfl q289 q1535 q108 q290 q37 q291 (n := 0) (by decide +kernel) rfl (Nat.le_of_ble_eq_true rfl) (Nat.le_of_ble_eq_true rfl) rfl (Nat.le_of_ble_eq_true rfl) (Nat.le_refl _) (Nat.le_refl _) dJ1_length_1 znx (zri ?_)
  exact r_iret hC hE rfl dJ1_length_4 ⟨rfl, rfl⟩
theorem c_bEns (hl : l.stackTraces = false) (h : zH) (q b n k : Nat) (f : Nat → Value) (m c : Int32) (hq : h q = some (.inr (6, [.ref b, .int 0, .int m, .int c]))) (hb : h b = some (.inl (4, n, f))) (hk : k ≤ n) (hn : n < 2 ^ 30) : zM g l yJ0_ensureCapacityInternal (ws_ yJ0_ensureCapacityInternal cJ0_ensureCapacityInternal 3 none) 0 0 0 0 [.ref q, .int (nI k)] h (zRv h) zNx := by
  refine zM.of (cc := cJ0_ensureCapacityInternal) (nL := 3) (ret := none) (by decide) hl (zcat rfl) (Nat.le_of_ble_eq_true rfl) ?_
  intro Z hg hz hC hE hN
  subst hg
  subst hz
  change zW Z _ _ _ 0 [some _, some _, none] []
  have hst := hC.2.2.2.2.2.2.2.1
  refine r_aload_n hC dJ0_ensureCapacityInternal_0 rfl (by first | rfl | exact zisR_rf _) ?_
  refine r_get hC 0 in_J1 (ci := 6) rfl (by assumption) (by decide) ⟨rfl, rfl, rfl⟩ q95 rfl dJ0_ensureCapacityInternal_1 ?_
  refine r_alen hC dJ0_ensureCapacityInternal_4 (by assumption) ?_
  refine r_aload_n hC dJ0_ensureCapacityInternal_5 rfl (by first | rfl | exact zisR_rf _) ?_
  refine r_get hC 1 in_J1 (ci := 6) rfl (by assumption) (by decide) ⟨rfl, rfl, rfl⟩ q96 rfl dJ0_ensureCapacityInternal_6 ?_
  refine r_ishr hC dJ0_ensureCapacityInternal_9 ?_
  rw [nI_sh0 (by omega)]
  refine r_ist2 hC dJ0_ensureCapacityInternal_10 ?_
  refine r_iload_n hC dJ0_ensureCapacityInternal_11 rfl ?_
  refine r_iload_n hC dJ0_ensureCapacityInternal_12 rfl ?_
  refine r_isub hC dJ0_ensureCapacityInternal_13 ?_
  refine r_if_le hC dJ0_ensureCapacityInternal_14 (tgt := 38) (by decide) (fun e => ?_) (fun e => absurd (nI_suble hk hn) e)
  exact r_vret hC hE rfl dJ0_ensureCapacityInternal_38 ⟨rfl, rfl⟩
theorem c_canE (hl : l.stackTraces = false) (h : zH) (c : Nat) (hc : c < 128) : zM g l yJ15_canEncode (ws_ yJ15_canEncode cJ15_canEncode 1 (some .boolean)) 0 0 0 0 [.int (nI c)] h (zRi (.int 1) h) zNx := by
  refine zM.of (cc := cJ15_canEncode) (nL := 1) (ret := (some .boolean)) (by decide) hl (zcat rfl) (Nat.le_of_ble_eq_true rfl) ?_
  intro Z hg hz hC hE hN
  subst hg
  subst hz
  change zW Z _ _ _ 0 [some _] []
  have hst := hC.2.2.2.2.2.2.2.1
  refine r_iload_n hC dJ15_canEncode_0 rfl ?_
  refine r_sipush hC dJ15_canEncode_1 (v := (nI 255)) (by decide) ?_
  refine r_icmp_gtN hC dJ15_canEncode_4 (tgt := 11) (by decide) (by omega) (by decide) (fun e => by omega) (fun e => ?_)
  refine r_iconst hC dJ15_canEncode_7 (v := (nI 1)) (by decide) ?_
  refine r_goto hC dJ15_canEncode_8 (tgt := 12) (by decide) ?_
  exact r_zret hC hE rfl (by first | rfl | exact nB_nz _ | exact nar_ch (by omega) | assumption) dJ15_canEncode_12 ⟨rfl, rfl⟩
theorem c_bApp0 (hl : l.stackTraces = false) (h : zH) (q b n k c : Nat) (f : Nat → Value) (m : Int32) (hA : zA g q) (hB : zA g b) (hq : h q = some (.inr (6, [.ref b, .int 0, .int m, .int (nI k)]))) (hb : h b = some (.inl (4, n, f))) (hk : k < n) (hn : n < 2 ^ 30) (hc : c < 128) :
    zM g l yJ0_append_3 (ws_ yJ0_append_3 cJ0_append_3 2 (some (.object "java/lang/AbstractStringBuilder"))) 1 22 0 0 [.ref q, .int (nI c)] h (zRi (.ref q) (zup (zup h q (.inr (6, [.ref b, .int 0, .int m, .int (nI (k + 1))]))) b (.inl (4, n, zst f k (.int (nI c)))))) zNx := by
  refine zM.of (cc := cJ0_append_3) (nL := 2) (ret := (some (.object "java/lang/AbstractStringBuilder"))) (by decide) hl (zcat rfl) (Nat.le_of_ble_eq_true rfl) ?_
  intro Z hg hz hC hE hN
  subst hg
  subst hz
  change zW Z _ _ _ 0 [some _, some _] []
  have hst := hC.2.2.2.2.2.2.2.1
  have hqb : b ≠ q := fun e => by rw [e, hq] at hb; cases hb
  refine r_aload_n hC dJ0_append_3_0 rfl (by first | rfl | exact zisR_rf _) ?_
  refine r_aload_n hC dJ0_append_3_1 rfl (by first | rfl | exact zisR_rf _) ?_
  refine r_get hC 3 in_J1 (ci := 6) rfl (by assumption) (by decide) ⟨rfl, rfl, rfl⟩ q99 rfl dJ0_append_3_2 ?_
  refine r_iconst hC dJ0_append_3_5 (v := (nI 1)) (by decide) ?_
  first | refine r_iaddN hC dJ0_append_3_6 ?_ | refine r_iadd hC dJ0_append_3_6 ?_
  refine r_callP hC (c_bEns hst h q b n (k + 1) f m (nI k) hq hb hk hn) hq q318 q320 (by decide) q37 q321 (n := 1) (by decide +kernel) rfl (Nat.le_of_ble_eq_true rfl) (Nat.le_of_ble_eq_true rfl) rfl (Nat.le_of_ble_eq_true rfl) (Nat.le_refl _) (Nat.le_refl _) dJ0_append_3_7 znx (zrv ?_)
  refine r_aload_n hC dJ0_append_3_10 rfl (by first | rfl | exact zisR_rf _) ?_
  refine r_callV hC (c_bLat hst h q b m (nI k) hq) hq rfl q338 q339 q341 q37 q342 (n := 0) (by decide +kernel) rfl (Nat.le_of_ble_eq_true rfl) (Nat.le_of_ble_eq_true rfl) rfl (Nat.le_of_ble_eq_true rfl) (Nat.le_refl _) (Nat.le_refl _) dJ0_append_3_11 znx (zri ?_)
  refine r_if_eq hC dJ0_append_3_14 (tgt := 45) (by decide) (fun e => absurd e (by decide)) (fun _ => ?_)
  refine r_iload_n hC dJ0_append_3_17 rfl ?_
  refine r_callS hC (c_canE hst h c hc) q888 q889 q56 q890 (n := 1) (by decide +kernel) rfl (Nat.le_of_ble_eq_true rfl) (Nat.le_of_ble_eq_true rfl) rfl (Nat.le_of_ble_eq_true rfl) (Nat.le_refl _) (Nat.le_refl _) dJ0_append_3_18 znx (zri ?_)
  refine r_if_eq hC dJ0_append_3_21 (tgt := 45) (by decide) (fun e => absurd e (by decide)) (fun _ => ?_)
  refine r_aload_n hC dJ0_append_3_24 rfl (by first | rfl | exact zisR_rf _) ?_
  refine r_get hC 0 in_J1 (ci := 6) rfl hq (by decide) ⟨rfl, rfl, rfl⟩ q95 rfl dJ0_append_3_25 ?_
  refine r_aload_n hC dJ0_append_3_28 rfl (by first | rfl | exact zisR_rf _) ?_
  refine r_dup hC dJ0_append_3_29 (by first | rfl | exact zcat1 _) ?_
  refine r_get hC 3 in_J1 (ci := 6) rfl hq (by decide) ⟨rfl, rfl, rfl⟩ q99 rfl dJ0_append_3_30 ?_
  refine r_dup_x1 hC dJ0_append_3_33 (by first | rfl | exact zcat1 _) (by first | rfl | exact zcat1 _) ?_
  refine r_iconst hC dJ0_append_3_34 (v := (nI 1)) (by decide) ?_
  first | refine r_iaddN hC dJ0_append_3_35 ?_ | refine r_iadd hC dJ0_append_3_35 ?_
  refine r_put hC 3 in_J1 tyJ1 tyJ1_ok nmJ1 (ci := 6) rfl (by assumption) hq (by decide) ⟨rfl, rfl, rfl, rfl⟩ q99 (by decide +kernel : parseFieldDescriptor "I" = some (.int)) rfl rfl (by simp) rfl dJ0_append_3_36 ?_
  refine r_iload_n hC dJ0_append_3_39 rfl ?_
  refine r_i2b hC dJ0_append_3_40 ?_
  rw [nI_b1 c hc]
  refine r_bst hC dJ0_append_3_41 (by rw [zup_n hqb]; exact hb) hB (vp_in_nI hk (by omega)) (nI_b2 c hc) ?_
  rw [nI_clamp (by omega)]
  refine r_goto hC dJ0_append_3_42 (tgt := 75) (by decide) ?_
  refine r_aload_n hC dJ0_append_3_75 rfl (by first | rfl | exact zisR_rf _) ?_
  exact r_aret hC hE rfl (by first | exact Or.inl ⟨_, rfl⟩ | exact Or.inr ⟨_, rfl⟩) (by first | rfl | exact zisR_rf _) dJ0_append_3_76 ⟨rfl, rfl⟩
theorem c_bApp (hl : l.stackTraces = false) (h : zH) (q b n k c : Nat) (f : Nat → Value) (m : Int32) (hA : zA g q) (hB : zA g b) (hq : h q = some (.inr (6, [.ref b, .int 0, .int m, .int (nI k)]))) (hb : h b = some (.inl (4, n, f))) (hk : k < n) (hn : n < 2 ^ 30) (hc : c < 128) :
    zM g l yJ1_append_3 (ws_ yJ1_append_3 cJ1_append_3 2 (some (.object "java/lang/StringBuilder"))) 2 43 0 0 [.ref q, .int (nI c)] h (zRi (.ref q) (zup (zup h q (.inr (6, [.ref b, .int 0, .int m, .int (nI (k + 1))]))) b (.inl (4, n, zst f k (.int (nI c)))))) zNx := by
  refine zM.of (cc := cJ1_append_3) (nL := 2) (ret := (some (.object "java/lang/StringBuilder"))) (by decide) hl (zcat rfl) (Nat.le_of_ble_eq_true rfl) ?_
  intro Z hg hz hC hE hN
  subst hg
  subst hz
  change zW Z _ _ _ 0 [some _, some _] []
  have hst := hC.2.2.2.2.2.2.2.1
  refine r_aload_n hC dJ1_append_3_0 rfl (by first | rfl | exact zisR_rf _) ?_
  refine r_iload_n hC dJ1_append_3_1 rfl ?_
  refine r_callSU hC (c_bApp0 hst h q b n k c f m hA hB hq hb hk hn hc) hq rfl q885 q1548 q108 q886 q37 q887 (n := 1) (by decide +kernel) rfl (Nat.le_of_ble_eq_true rfl) (Nat.le_of_ble_eq_true rfl) rfl (Nat.le_of_ble_eq_true rfl) (Nat.le_refl _) (Nat.le_refl _) dJ1_append_3_2 znx (zri ?_)
  refine r_pop hC dJ1_append_3_5 (by first | rfl | exact zcat1 _) ?_
  refine r_aload_n hC dJ1_append_3_6 rfl (by first | rfl | exact zisR_rf _) ?_
  exact r_aret hC hE rfl (by first | exact Or.inl ⟨_, rfl⟩ | exact Or.inr ⟨_, rfl⟩) (by first | rfl | exact zisR_rf _) dJ1_append_3_7 ⟨rfl, rfl⟩
theorem c_bShift (hl : l.stackTraces = false) (h : zH) (q b n k o d : Nat) (f : Nat → Value) (w : Nat → Nat) (m x : Int32) (hB : zA g b) (hq : h q = some (.inr (6, [.ref b, .int 0, .int m, .int (nI k)]))) (hb : h b = some (.inl (4, n, f))) (hw : zBy f w n) (hx : nI o + x = nI d) (ho : o ≤ k) (hk : k ≤ n) (hd : d + (k - o) ≤ n) (hn : n < 2 ^ 30) :
    zM g l yJ0_shift (ws_ yJ0_shift cJ0_shift 3 none) 1 60 0 0 [.ref q, .int (nI o), .int x] h (zRv (zup h b (.inl (4, n, va_cpy f f o d (k - o))))) zNx := by
  refine zM.of (cc := cJ0_shift) (nL := 3) (ret := none) (by decide) hl (zcat rfl) (Nat.le_of_ble_eq_true rfl) ?_
  intro Z hg hz hC hE hN
  subst hg
  subst hz
  change zW Z _ _ _ 0 [some _, some _, some _] []
  have hst := hC.2.2.2.2.2.2.2.1
  refine r_aload_n hC dJ0_shift_0 rfl (by first | rfl | exact zisR_rf _) ?_
  refine r_get hC 0 in_J1 (ci := 6) rfl hq (by decide) ⟨rfl, rfl, rfl⟩ q95 rfl dJ0_shift_1 ?_
  refine r_iload_n hC dJ0_shift_4 rfl ?_
  refine r_aload_n hC dJ0_shift_5 rfl (by first | rfl | exact zisR_rf _) ?_
  refine r_get hC 1 in_J1 (ci := 6) rfl hq (by decide) ⟨rfl, rfl, rfl⟩ q96 rfl dJ0_shift_6 ?_
  refine r_ishl hC dJ0_shift_9 ?_
  rw [nI_sl0]
  refine r_aload_n hC dJ0_shift_10 rfl (by first | rfl | exact zisR_rf _) ?_
  refine r_get hC 0 in_J1 (ci := 6) rfl hq (by decide) ⟨rfl, rfl, rfl⟩ q95 rfl dJ0_shift_11 ?_
  refine r_iload_n hC dJ0_shift_14 rfl ?_
  refine r_iload_n hC dJ0_shift_15 rfl ?_
  refine r_iadd hC dJ0_shift_16 ?_
  rw [hx]
  refine r_aload_n hC dJ0_shift_17 rfl (by first | rfl | exact zisR_rf _) ?_
  refine r_get hC 1 in_J1 (ci := 6) rfl hq (by decide) ⟨rfl, rfl, rfl⟩ q96 rfl dJ0_shift_18 ?_
  refine r_ishl hC dJ0_shift_21 ?_
  rw [nI_sl0]
  refine r_aload_n hC dJ0_shift_22 rfl (by first | rfl | exact zisR_rf _) ?_
  refine r_get hC 3 in_J1 (ci := 6) rfl hq (by decide) ⟨rfl, rfl, rfl⟩ q99 rfl dJ0_shift_23 ?_
  refine r_iload_n hC dJ0_shift_26 rfl ?_
  refine r_isubN hC dJ0_shift_27 ho ?_
  refine r_aload_n hC dJ0_shift_28 rfl (by first | rfl | exact zisR_rf _) ?_
  refine r_get hC 1 in_J1 (ci := 6) rfl hq (by decide) ⟨rfl, rfl, rfl⟩ q96 rfl dJ0_shift_29 ?_
  refine r_ishl hC dJ0_shift_32 ?_
  rw [nI_sl0]
  refine r_copy hC 4 (by decide) q912 (he0 := hb) (he := hb) (ha := hB) (b1 := (by omega)) (b2 := (by omega)) (b3 := (by omega)) (b4 := (by omega)) (hel := fun i hi => ⟨fun _ => hw.el (by omega), fun q => absurd q (by decide)⟩) (Nat.le_of_ble_eq_true rfl) (Nat.le_of_ble_eq_true rfl) (Nat.le_of_ble_eq_true rfl) dJ0_shift_33 ?_
  exact r_vret hC hE rfl dJ0_shift_36 ⟨rfl, rfl⟩
theorem c_bDca0 (hl : l.stackTraces = false) (h : zH) (q b n k i : Nat) (f : Nat → Value) (w : Nat → Nat) (m : Int32) (hA : zA g q) (hB : zA g b) (hq : h q = some (.inr (6, [.ref b, .int 0, .int m, .int (nI k)]))) (hb : h b = some (.inl (4, n, f))) (hw : zBy f w n) (hi : i < k) (hk : k ≤ n) (hn : n < 2 ^ 30) :
    zM g l yJ0_deleteCharAt (ws_ yJ0_deleteCharAt cJ0_deleteCharAt 2 (some (.object "java/lang/AbstractStringBuilder"))) 2 82 0 0 [.ref q, .int (nI i)] h (zRi (.ref q) (zup (zup h b (.inl (4, n, va_cpy f f (i + 1) i (k - (i + 1))))) q (.inr (6, [.ref b, .int 0, .int 1, .int (nI (k - 1))])))) zNx := by
  refine zM.of (cc := cJ0_deleteCharAt) (nL := 2) (ret := (some (.object "java/lang/AbstractStringBuilder"))) (by decide) hl (zcat rfl) (Nat.le_of_ble_eq_true rfl) ?_
  intro Z hg hz hC hE hN
  subst hg
  subst hz
  change zW Z _ _ _ 0 [some _, some _] []
  have hst := hC.2.2.2.2.2.2.2.1
  have hqb : q ≠ b := fun e => by rw [e, hb] at hq; cases hq
  refine r_iload_n hC dJ0_deleteCharAt_0 rfl ?_
  refine r_aload_n hC dJ0_deleteCharAt_1 rfl (by first | rfl | exact zisR_rf _) ?_
  refine r_get hC 3 in_J1 (ci := 6) rfl hq (by decide) ⟨rfl, rfl, rfl⟩ q99 rfl dJ0_deleteCharAt_2 ?_
  refine r_callS hC (c_scheckIndex hst h i k hi (by omega)) q819 q800 q39 q801 (n := 2) (by decide +kernel) rfl (Nat.le_of_ble_eq_true rfl) (Nat.le_of_ble_eq_true rfl) rfl (Nat.le_of_ble_eq_true rfl) (Nat.le_refl _) (Nat.le_refl _) dJ0_deleteCharAt_5 znx (zrv ?_)
  refine r_aload_n hC dJ0_deleteCharAt_8 rfl (by first | rfl | exact zisR_rf _) ?_
  refine r_iload_n hC dJ0_deleteCharAt_9 rfl ?_
  refine r_iconst hC dJ0_deleteCharAt_10 (v := (nI 1)) (by decide) ?_
  first | refine r_iaddN hC dJ0_deleteCharAt_11 ?_ | refine r_iadd hC dJ0_deleteCharAt_11 ?_
  refine r_iconst hC dJ0_deleteCharAt_12 (v := (-1)) (by decide) ?_
  refine r_callP hC (c_bShift hst h q b n k (i + 1) i f w m (-1) hB hq hb hw (by rw [nI_succ, Int32.add_assoc, show (1 : Int32) + -1 = 0 from by decide, Int32.add_zero]) (by omega) hk (by omega) hn) hq q908 q910 (by decide) q37 q911 (n := 2) (by decide +kernel) rfl (Nat.le_of_ble_eq_true rfl) (Nat.le_of_ble_eq_true rfl) rfl (Nat.le_of_ble_eq_true rfl) (Nat.le_refl _) (Nat.le_refl _) dJ0_deleteCharAt_13 znx (zrv ?_)
  have hq1 : (zup h b (.inl (4, n, va_cpy f f (i + 1) i (k - (i + 1))))) q = some (.inr (6, [.ref b, .int 0, .int m, .int (nI k)])) := by rw [zup_n hqb]; exact hq
  refine r_aload_n hC dJ0_deleteCharAt_16 rfl (by first | rfl | exact zisR_rf _) ?_
  refine r_dup hC dJ0_deleteCharAt_17 (by first | rfl | exact zcat1 _) ?_
  refine r_get hC 3 in_J1 (ci := 6) rfl hq1 (by decide) ⟨rfl, rfl, rfl⟩ q99 rfl dJ0_deleteCharAt_18 ?_
  refine r_iconst hC dJ0_deleteCharAt_21 (v := (nI 1)) (by decide) ?_
  first | refine r_isubN hC dJ0_deleteCharAt_22 (by omega) ?_ | refine r_isub hC dJ0_deleteCharAt_22 ?_
  refine r_put hC 3 in_J1 tyJ1 tyJ1_ok nmJ1 (ci := 6) rfl (by assumption) hq1 (by decide) ⟨rfl, rfl, rfl, rfl⟩ q99 (by decide +kernel : parseFieldDescriptor "I" = some (.int)) rfl rfl (by simp) rfl dJ0_deleteCharAt_23 ?_
  refine r_aload_n hC dJ0_deleteCharAt_26 rfl (by first | rfl | exact zisR_rf _) ?_
  refine r_iconst hC dJ0_deleteCharAt_27 (v := (nI 1)) (by decide) ?_
  refine r_put hC 2 in_J1 tyJ1 tyJ1_ok nmJ1 (ci := 6) rfl (by assumption) zup_s (by decide) ⟨rfl, rfl, rfl, rfl⟩ q97 (by decide +kernel : parseFieldDescriptor "Z" = some (.boolean)) (by first | rfl | exact nB_nz _ | exact nB_fz _) (by first | rfl | exact nB_nz _ | exact nB_fz _) (by simp) rfl dJ0_deleteCharAt_28 ?_
  rw [zup_zup]
  refine r_aload_n hC dJ0_deleteCharAt_31 rfl (by first | rfl | exact zisR_rf _) ?_
  exact r_aret hC hE rfl (by first | exact Or.inl ⟨_, rfl⟩ | exact Or.inr ⟨_, rfl⟩) (by first | rfl | exact zisR_rf _) dJ0_deleteCharAt_32 ⟨rfl, rfl⟩
theorem c_bDca (hl : l.stackTraces = false) (h : zH) (q b n k i : Nat) (f : Nat → Value) (w : Nat → Nat) (m : Int32) (hA : zA g q) (hB : zA g b) (hq : h q = some (.inr (6, [.ref b, .int 0, .int m, .int (nI k)]))) (hb : h b = some (.inl (4, n, f))) (hw : zBy f w n) (hi : i < k) (hk : k ≤ n) (hn : n < 2 ^ 30) :
    zM g l yJ1_deleteCharAt (ws_ yJ1_deleteCharAt cJ1_deleteCharAt 2 (some (.object "java/lang/StringBuilder"))) 3 103 0 0 [.ref q, .int (nI i)] h (zRi (.ref q) (zup (zup h b (.inl (4, n, va_cpy f f (i + 1) i (k - (i + 1))))) q (.inr (6, [.ref b, .int 0, .int 1, .int (nI (k - 1))])))) zNx := by
  refine zM.of (cc := cJ1_deleteCharAt) (nL := 2) (ret := (some (.object "java/lang/StringBuilder"))) (by decide) hl (zcat rfl) (Nat.le_of_ble_eq_true rfl) ?_
  intro Z hg hz hC hE hN
  subst hg
  subst hz
  change zW Z _ _ _ 0 [some _, some _] []
  have hst := hC.2.2.2.2.2.2.2.1
  refine r_aload_n hC dJ1_deleteCharAt_0 rfl (by first | rfl | exact zisR_rf _) ?_
  refine r_iload_n hC dJ1_deleteCharAt_1 rfl ?_
  refine r_callSU hC (c_bDca0 hst h q b n k i f w m hA hB hq hb hw hi hk hn) hq rfl q905 q1549 q108 q906 q37 q907 (n := 1) (by decide +kernel) rfl (Nat.le_of_ble_eq_true rfl) (Nat.le_of_ble_eq_true rfl) rfl (Nat.le_of_ble_eq_true rfl) (Nat.le_refl _) (Nat.le_refl _) dJ1_deleteCharAt_2 znx (zri ?_)
  refine r_pop hC dJ1_deleteCharAt_5 (by first | rfl | exact zcat1 _) ?_
  refine r_aload_n hC dJ1_deleteCharAt_6 rfl (by first | rfl | exact zisR_rf _) ?_
  exact r_aret hC hE rfl (by first | exact Or.inl ⟨_, rfl⟩ | exact Or.inr ⟨_, rfl⟩) (by first | rfl | exact zisR_rf _) dJ1_deleteCharAt_7 ⟨rfl, rfl⟩
theorem c_bSetl0 (hl : l.stackTraces = false) (h : zH) (q b n k j : Nat) (f : Nat → Value) (m : Int32) (hm : m = 0 ∨ m = 1) (hA : zA g q) (hq : h q = some (.inr (6, [.ref b, .int 0, .int m, .int (nI k)]))) (hb : h b = some (.inl (4, n, f))) (hj : j ≤ k) (hk : k ≤ n) (hn : n < 2 ^ 30) :
    zM g l yJ0_setLength (ws_ yJ0_setLength cJ0_setLength 2 none) 1 22 0 0 [.ref q, .int (nI j)] h (fun u h' => u = none ∧ ∃ m', (m' = 0 ∨ m' = 1) ∧ h' = zup h q (.inr (6, [.ref b, .int 0, .int m', .int (nI j)]))) zNx := by
  refine zM.of (cc := cJ0_setLength) (nL := 2) (ret := none) (by decide) hl (zcat rfl) (Nat.le_of_ble_eq_true rfl) ?_
  intro Z hg hz hC hE hN
  subst hg
  subst hz
  change zW Z _ _ _ 0 [some _, some _] []
  have hst := hC.2.2.2.2.2.2.2.1
  refine r_iload_n hC dJ0_setLength_0 rfl ?_
  refine r_if_ge hC dJ0_setLength_1 (tgt := 13) (by decide) (fun _ => ?_) (fun e => absurd (nI_pos' (by omega)) e)
  refine r_aload_n hC dJ0_setLength_13 rfl (by first | rfl | exact zisR_rf _) ?_
  refine r_iload_n hC dJ0_setLength_14 rfl ?_
  refine r_callP hC (c_bEns hst h q b n j f m (nI k) hq hb (by omega) hn) hq q318 q320 (by decide) q37 q321 (n := 1) (by decide +kernel) rfl (Nat.le_of_ble_eq_true rfl) (Nat.le_of_ble_eq_true rfl) rfl (Nat.le_of_ble_eq_true rfl) (Nat.le_refl _) (Nat.le_refl _) dJ0_setLength_15 znx (zrv ?_)
  refine r_aload_n hC dJ0_setLength_18 rfl (by first | rfl | exact zisR_rf _) ?_
  refine r_get hC 3 in_J1 (ci := 6) rfl hq (by decide) ⟨rfl, rfl, rfl⟩ q99 rfl dJ0_setLength_19 ?_
  refine r_iload_n hC dJ0_setLength_22 rfl ?_
  refine r_icmp_geN hC dJ0_setLength_23 (tgt := 63) (by decide) (by omega) (by omega) (fun _ => ?_) (fun e => by omega)
  refine r_aload_n hC dJ0_setLength_63 rfl (by first | rfl | exact zisR_rf _) ?_
  refine r_get hC 3 in_J1 (ci := 6) rfl hq (by decide) ⟨rfl, rfl, rfl⟩ q99 rfl dJ0_setLength_64 ?_
  refine r_iload_n hC dJ0_setLength_67 rfl ?_
  refine r_icmp_leN hC dJ0_setLength_68 (tgt := 76) (by decide) (by omega) (by omega) (fun _ => ?_) (fun e => ?_)
  · skip
    refine r_aload_n hC dJ0_setLength_76 rfl (by first | rfl | exact zisR_rf _) ?_
    refine r_iload_n hC dJ0_setLength_77 rfl ?_
    refine r_put hC 3 in_J1 tyJ1 tyJ1_ok nmJ1 (ci := 6) rfl (by assumption) hq (by decide) ⟨rfl, rfl, rfl, rfl⟩ q99 (by decide +kernel : parseFieldDescriptor "I" = some (.int)) rfl rfl (by simp) rfl dJ0_setLength_78 ?_
    exact r_vret hC hE rfl dJ0_setLength_81 ⟨rfl, m, hm, rfl⟩
  · refine r_aload_n hC dJ0_setLength_71 rfl (by first | rfl | exact zisR_rf _) ?_
    refine r_iconst hC dJ0_setLength_72 (v := (nI 1)) (by decide) ?_
    refine r_put hC 2 in_J1 tyJ1 tyJ1_ok nmJ1 (ci := 6) rfl (by assumption) hq (by decide) ⟨rfl, rfl, rfl, rfl⟩ q97 (by decide +kernel : parseFieldDescriptor "Z" = some (.boolean)) (by first | rfl | exact nB_nz _ | exact nB_fz _) (by first | rfl | exact nB_nz _ | exact nB_fz _) (by simp) rfl dJ0_setLength_73 ?_
    refine r_aload_n hC dJ0_setLength_76 rfl (by first | rfl | exact zisR_rf _) ?_
    refine r_iload_n hC dJ0_setLength_77 rfl ?_
    refine r_put hC 3 in_J1 tyJ1 tyJ1_ok nmJ1 (ci := 6) rfl (by assumption) zup_s (by decide) ⟨rfl, rfl, rfl, rfl⟩ q99 (by decide +kernel : parseFieldDescriptor "I" = some (.int)) rfl rfl (by simp) rfl dJ0_setLength_78 ?_
    rw [zup_zup]
    exact r_vret hC hE rfl dJ0_setLength_81 ⟨rfl, 1, Or.inr rfl, rfl⟩
theorem c_bSetl (hl : l.stackTraces = false) (h : zH) (q b n k j : Nat) (f : Nat → Value) (m : Int32) (hm : m = 0 ∨ m = 1) (hA : zA g q) (hq : h q = some (.inr (6, [.ref b, .int 0, .int m, .int (nI k)]))) (hb : h b = some (.inl (4, n, f))) (hj : j ≤ k) (hk : k ≤ n) (hn : n < 2 ^ 30) :
    zM g l yJ1_setLength (ws_ yJ1_setLength cJ1_setLength 2 none) 2 43 0 0 [.ref q, .int (nI j)] h (fun u h' => u = none ∧ ∃ m', (m' = 0 ∨ m' = 1) ∧ h' = zup h q (.inr (6, [.ref b, .int 0, .int m', .int (nI j)]))) zNx := by
  refine zM.of (cc := cJ1_setLength) (nL := 2) (ret := none) (by decide) hl (zcat rfl) (Nat.le_of_ble_eq_true rfl) ?_
  intro Z hg hz hC hE hN
  subst hg
  subst hz
  change zW Z _ _ _ 0 [some _, some _] []
  have hst := hC.2.2.2.2.2.2.2.1
  refine r_aload_n hC dJ1_setLength_0 rfl (by first | rfl | exact zisR_rf _) ?_
  refine r_iload_n hC dJ1_setLength_1 rfl ?_
  refine r_callSU hC (c_bSetl0 hst h q b n k j f m hm hA hq hb hj hk hn) hq rfl q296 q1536 q108 q297 q37 q298 (n := 1) (by decide +kernel) rfl (Nat.le_of_ble_eq_true rfl) (Nat.le_of_ble_eq_true rfl) rfl (Nat.le_of_ble_eq_true rfl) (Nat.le_refl _) (Nat.le_refl _) dJ1_setLength_2 znx (fun v9 h9 e9 => ?_)
  obtain ⟨rfl, m', k1, rfl⟩ := e9
  exact r_vret hC hE rfl dJ1_setLength_5 ⟨rfl, m', k1, rfl⟩
end JD3

