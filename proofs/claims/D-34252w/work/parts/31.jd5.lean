/-! JDK 5: Strings read, compared -/
set_option maxRecDepth 100000
/-- the words are one -/
def zEqW (n1 : Nat) (w1 : Nat → Nat) (n2 : Nat) (w2 : Nat → Nat) : Bool := n1 == n2 && zAll (fun j => w1 j == w2 j) n1
/-- w2 is the head of w1 -/
def zPre (n1 : Nat) (w1 : Nat → Nat) (n2 : Nat) (w2 : Nat → Nat) : Bool := decide (n2 ≤ n1) && zAll (fun j => w1 j == w2 j) n2
theorem zStr.len {h : zH} {q n1 n2 : Nat} {w1 w2 : Nat → Nat} (a : zStr h q n1 w1) (b : zStr h q n2 w2) : n1 = n2 ∧ ∀ j, j < n1 → w1 j = w2 j := by
  obtain ⟨b1, f1, h1, h2, h3⟩ := a
  obtain ⟨b2, f2, k1, k2, k3⟩ := b
  rw [h1] at k1
  obtain rfl : b1 = b2 := by injection k1 with k1; injection k1 with k1; injection k1 with _ k1; injection k1 with k1; injection k1
  rw [h2] at k2
  obtain ⟨rfl, rfl⟩ : n1 = n2 ∧ f1 = f2 := by injection k2 with k2; injection k2 with k2; injection k2 with _ k2; injection k2 with e1 e2; exact ⟨e1, e2⟩
  refine ⟨rfl, fun j hj => ?_⟩
  have e := (h3 j hj).2.symm.trans (k3 j hj).2
  injection e with e
  exact (nI_eq (by have := (h3 j hj).1; omega) (by have := (k3 j hj).1; omega)).mp e
section JD5
variable {g : zG} {l : Launch}
theorem c_bIns (hl : l.stackTraces = false) (h : zH) (q b s sb n k c o : Nat) (fs f : Nat → Value) (w v : Nat → Nat) (m : Int32) (hA : zA g q) (hB : zA g b) (hq : h q = some (.inr (6, [.ref b, .int 0, .int m, .int (nI c)]))) (hb : h b = some (.inl (4, n, f))) (hw : zBy f w n) (hs : h s = some (.inr (7, [.ref sb, .int 0]))) (hsb : h sb = some (.inl (4, k, fs))) (hv : zBy fs v k) (hdis : sb ≠ b) (ho : o ≤ c) (hck : c + k ≤ n) (hn : n < 1000) :
    zM g l yJ1_insert (ws_ yJ1_insert cJ1_insert 3 (some (.object "java/lang/StringBuilder"))) 4 128 0 0 [.ref q, .int (nI o), .ref s] h (fun u h' => u = some (.ref q) ∧ ∃ f' : Nat → Value, zBy f' (fun x => if o ≤ x ∧ x < o + k then v (x - o) else if o + k ≤ x ∧ x < o + k + (c - o) then w (o + (x - (o + k))) else w x) n ∧ h' = zup (zup h b (.inl (4, n, f'))) q (.inr (6, [.ref b, .int 0, .int m, .int (nI (c + k))]))) zNx := by
  refine zM.of (cc := cJ1_insert) (nL := 3) (ret := (some (.object "java/lang/StringBuilder"))) (by decide) hl (zcat rfl) (Nat.le_of_ble_eq_true rfl) ?_
  intro Z hg hz hC hE hN
  subst hg
  subst hz
  change zW Z _ _ _ 0 [some _, some _, some _] []
  have hst := hC.2.2.2.2.2.2.2.1
  refine r_aload_n hC dJ1_insert_0 rfl (by first | rfl | exact zisR_rf _) ?_
  refine r_iload_n hC dJ1_insert_1 rfl ?_
  refine r_aload_n hC dJ1_insert_2 rfl (by first | rfl | exact zisR_rf _) ?_
  refine r_callSU hC (c_bIns0 hst h q b s sb n k c o fs f w v m hA hB hq hb hw hs hsb hv hdis ho hck hn) hq rfl q1027 q1554 q108 q1028 q37 q1029 (n := 2) (by decide +kernel) rfl (Nat.le_of_ble_eq_true rfl) (Nat.le_of_ble_eq_true rfl) rfl (Nat.le_of_ble_eq_true rfl) (Nat.le_refl _) (Nat.le_refl _) dJ1_insert_3 znx (fun v9 h9 e9 => ?_)
  obtain ⟨rfl, f', k1, rfl⟩ := e9
  refine r_pop hC dJ1_insert_6 (by first | rfl | exact zcat1 _) ?_
  refine r_aload_n hC dJ1_insert_7 rfl (by first | rfl | exact zisR_rf _) ?_
  exact r_aret hC hE rfl (by first | exact Or.inl ⟨_, rfl⟩ | exact Or.inr ⟨_, rfl⟩) (by first | rfl | exact zisR_rf _) dJ1_insert_8 ⟨rfl, f', k1, rfl⟩
theorem c_bSub0 (hl : l.stackTraces = false) (h : zH) (hS : zSt g h) (q b n c i j : Nat) (f : Nat → Value) (w : Nat → Nat) (m : Int32) (hq : h q = some (.inr (6, [.ref b, .int 0, .int m, .int (nI c)]))) (hb : h b = some (.inl (4, n, f))) (hw : zBy f w n) (hij : i ≤ j) (hj : j ≤ c) (hc : c < n) (hn : n < 1000) :
    zM g l yJ0_substring (ws_ yJ0_substring cJ0_substring 3 (some (.object "java/lang/String"))) 4 128 2 (j - i + 4) [.ref q, .int (nI i), .int (nI j)] h (fun u h' => ∃ q' : Nat, u = some (.ref q') ∧ zLe h h' ∧ zStr h' q' (j - i) (fun x => w (i + x))) zNx := by
  refine zM.of (cc := cJ0_substring) (nL := 3) (ret := (some (.object "java/lang/String"))) (by decide) hl (zcat rfl) (Nat.le_of_ble_eq_true rfl) ?_
  intro Z hg hz hC hE hN
  subst hg
  subst hz
  change zW Z _ _ _ 0 [some _, some _, some _] []
  have hst := hC.2.2.2.2.2.2.2.1
  refine r_iload_n hC dJ0_substring_0 rfl ?_
  refine r_iload_n hC dJ0_substring_1 rfl ?_
  refine r_aload_n hC dJ0_substring_2 rfl (by first | rfl | exact zisR_rf _) ?_
  refine r_get hC 3 in_J1 (ci := 6) rfl hq (by decide) ⟨rfl, rfl, rfl⟩ q99 rfl dJ0_substring_3 ?_
  refine r_getsq hC (zk_si hC) q927 dJ0_substring_6 (fun v9 hv9 => ?_)
  refine r_callS hC (c_pcheckFT hst h i j c v9 hv9 hij hj (by omega)) q928 q358 q57 q359 (n := 4) (by decide +kernel) rfl (Nat.le_of_ble_eq_true rfl) (Nat.le_of_ble_eq_true rfl) rfl (Nat.le_of_ble_eq_true rfl) (cb' := 2) (sb' := (j-i+4)) (by omega) (by omega) dJ0_substring_9 znx (zri ?_)
  refine r_pop hC dJ0_substring_12 (by first | rfl | exact zcat1 _) ?_
  refine r_aload_n hC dJ0_substring_13 rfl (by first | rfl | exact zisR_rf _) ?_
  refine r_callV hC (c_bLat hst h q b m (nI c) hq) hq rfl q338 q339 q341 q37 q342 (n := 0) (by decide +kernel) rfl (Nat.le_of_ble_eq_true rfl) (Nat.le_of_ble_eq_true rfl) rfl (Nat.le_of_ble_eq_true rfl) (cb' := 2) (sb' := (j-i+4)) (by omega) (by omega) dJ0_substring_14 znx (zri ?_)
  refine r_if_eq hC dJ0_substring_17 (tgt := 32) (by decide) (fun e => absurd e (by decide)) (fun _ => ?_)
  refine r_aload_n hC dJ0_substring_20 rfl (by first | rfl | exact zisR_rf _) ?_
  refine r_get hC 0 in_J1 (ci := 6) rfl hq (by decide) ⟨rfl, rfl, rfl⟩ q95 rfl dJ0_substring_21 ?_
  refine r_iload_n hC dJ0_substring_24 rfl ?_
  refine r_iload_n hC dJ0_substring_25 rfl ?_
  refine r_iload_n hC dJ0_substring_26 rfl ?_
  refine r_isubN hC dJ0_substring_27 hij ?_
  refine r_callS hC (c_newStr hst h hS b n i (j - i) f w hb hw (by omega) (by omega) hn) q929 q930 q56 q931 (n := 3) (by decide +kernel) rfl (Nat.le_of_ble_eq_true rfl) (Nat.le_of_ble_eq_true rfl) rfl (Nat.le_of_ble_eq_true rfl) (cb' := 0) (sb' := 0) (by omega) (by omega) dJ0_substring_28 znx (fun v9 h9 e9 => ?_)
  obtain ⟨q', rfl, k1, k2⟩ := e9
  exact r_aret hC hE rfl (by first | exact Or.inl ⟨_, rfl⟩ | exact Or.inr ⟨_, rfl⟩) (by first | rfl | exact zisR_rf _) dJ0_substring_31 ⟨q', rfl, k1, k2⟩
theorem c_bSub (hl : l.stackTraces = false) (h : zH) (hS : zSt g h) (q b n c i j : Nat) (f : Nat → Value) (w : Nat → Nat) (m : Int32) (hq : h q = some (.inr (6, [.ref b, .int 0, .int m, .int (nI c)]))) (hb : h b = some (.inl (4, n, f))) (hw : zBy f w n) (hij : i ≤ j) (hj : j ≤ c) (hc : c < n) (hn : n < 1000) :
    zM g l yJ1_substring (ws_ yJ1_substring cJ1_substring 3 (some (.object "java/lang/String"))) 5 150 2 (j - i + 4) [.ref q, .int (nI i), .int (nI j)] h (fun u h' => ∃ q' : Nat, u = some (.ref q') ∧ zLe h h' ∧ zStr h' q' (j - i) (fun x => w (i + x))) zNx := by
  refine zM.of (cc := cJ1_substring) (nL := 3) (ret := (some (.object "java/lang/String"))) (by decide) hl (zcat rfl) (Nat.le_of_ble_eq_true rfl) ?_
  intro Z hg hz hC hE hN
  subst hg
  subst hz
  change zW Z _ _ _ 0 [some _, some _, some _] []
  have hst := hC.2.2.2.2.2.2.2.1
  refine r_aload_n hC dJ1_substring_0 rfl (by first | rfl | exact zisR_rf _) ?_
  refine r_iload_n hC dJ1_substring_1 rfl ?_
  refine r_iload_n hC dJ1_substring_2 rfl ?_
  refine r_callSU hC (c_bSub0 hst h hS q b n c i j f w m hq hb hw hij hj hc hn) hq rfl q924 q1551 q108 q925 q37 q926 (n := 2) (by decide +kernel) rfl (Nat.le_of_ble_eq_true rfl) (Nat.le_of_ble_eq_true rfl) rfl (Nat.le_of_ble_eq_true rfl) (cb' := 0) (sb' := 0) (by omega) (by omega) dJ1_substring_3 znx (fun v9 h9 e9 => ?_)
  obtain ⟨q', rfl, k1, k2⟩ := e9
  exact r_aret hC hE rfl (by first | exact Or.inl ⟨_, rfl⟩ | exact Or.inr ⟨_, rfl⟩) (by first | rfl | exact zisR_rf _) dJ1_substring_6 ⟨q', rfl, k1, k2⟩
theorem c_sInit2 (hl : l.stackTraces = false) (h : zH) (s q b n c : Nat) (f : Nat → Value) (w : Nat → Nat) (m : Int32) (hA : zA g s) (hs : h s = some (.inr (7, [.null, .int 0]))) (hq : h q = some (.inr (6, [.ref b, .int 0, .int m, .int (nI c)]))) (hb : h b = some (.inl (4, n, f))) (hw : zBy f w n) (hc : c < n) (hn : n < 1000) :
    zM g l yJ2_init_2 (ws_ yJ2_init_2 cJ2_init_2 5 none) 3 106 1 c [.ref s, .ref q, .null] h (fun u h' => u = none ∧ ∃ b' f', h b' = none ∧ zBy f' w c ∧ h' = zup (zup h b' (.inl (4, c, f'))) s (.inr (7, [.ref b', .int 0]))) zNx := by
  refine zM.of (cc := cJ2_init_2) (nL := 5) (ret := none) (by decide) hl (zcat rfl) (Nat.le_of_ble_eq_true rfl) ?_
  intro Z hg hz hC hE hN
  subst hg
  subst hz
  change zW Z _ _ _ 0 [some _, some _, some _, none, none] []
  have hst := hC.2.2.2.2.2.2.2.1
  have hsq : s ≠ q := fun e => by rw [e, hq] at hs; cases hs
  have hsb : s ≠ b := fun e => by rw [e, hb] at hs; cases hs
  refine r_aload_n hC dJ2_init_2_0 rfl (by first | rfl | exact zisR_rf _) ?_
  refine r_objInit hC q449 q75 q76 dJ2_init_2_1 (Nat.le_of_ble_eq_true rfl) (Nat.le_of_ble_eq_true rfl) (Nat.le_of_ble_eq_true rfl) ?_
  refine r_aload_n hC dJ2_init_2_4 rfl (by first | rfl | exact zisR_rf _) ?_
  refine r_callV hC (c_bVal hst h q b m (nI c) hq) hq rfl q450 q451 q453 q37 q454 (n := 0) (by decide +kernel) rfl (Nat.le_of_ble_eq_true rfl) (Nat.le_of_ble_eq_true rfl) rfl (Nat.le_of_ble_eq_true rfl) (cb' := 1) (sb' := c) (by omega) (by omega) dJ2_init_2_5 znx (zri ?_)
  refine r_ast3 hC dJ2_init_2_8 (by first | rfl | exact zisR_rf _) ?_
  refine r_aload_n hC dJ2_init_2_9 rfl (by first | rfl | exact zisR_rf _) ?_
  refine r_callO hC (c_bLen hst h q b m (nI c) hq) hq rfl q291 q455 q1535 q290 q286 q1545 q38 q288 (n := 0) (by decide +kernel) rfl (Nat.le_of_ble_eq_true rfl) (Nat.le_of_ble_eq_true rfl) rfl (Nat.le_of_ble_eq_true rfl) (cb' := 1) (sb' := c) (by omega) (by omega) dJ2_init_2_10 znx (zri ?_)
  refine r_ist4 hC dJ2_init_2_13 ?_
  refine r_aload_n hC dJ2_init_2_15 rfl (by first | rfl | exact zisR_rf _) ?_
  refine r_callV hC (c_bLat hst h q b m (nI c) hq) hq rfl q456 q339 q341 q37 q342 (n := 0) (by decide +kernel) rfl (Nat.le_of_ble_eq_true rfl) (Nat.le_of_ble_eq_true rfl) rfl (Nat.le_of_ble_eq_true rfl) (cb' := 1) (sb' := c) (by omega) (by omega) dJ2_init_2_16 znx (zri ?_)
  refine r_if_eq hC dJ2_init_2_19 (tgt := 41) (by decide) (fun e => absurd e (by decide)) (fun _ => ?_)
  refine r_aload_n hC dJ2_init_2_22 rfl (by first | rfl | exact zisR_rf _) ?_
  refine r_iconst hC dJ2_init_2_23 (v := (nI 0)) (by decide) ?_
  refine r_putF hC 1 in_J2b tyJ2 tyJ2b_ok nmJ2b (ci := 7) rfl hN (by assumption) hs (by decide) ⟨rfl, rfl, rfl, rfl⟩ q554 (by decide +kernel : parseFieldDescriptor "B" = some (.byte)) (by first | rfl | exact nB_nz _ | exact nB_fz _) (by first | rfl | exact nB_nz _ | exact nB_fz _) (by simp) rfl dJ2_init_2_24 ?_
  rw [show [Value.null, .int 0].set 1 (.int (nI 0)) = [.null, .int 0] from rfl, zup_same hs]
  refine r_aload_n hC dJ2_init_2_27 rfl (by first | rfl | exact zisR_rf _) ?_
  refine r_aload_n hC dJ2_init_2_28 rfl (by first | rfl | exact zisR_rf _) ?_
  refine r_iconst hC dJ2_init_2_29 (v := (nI 0)) (by decide) ?_
  refine r_iload hC dJ2_init_2_30 rfl ?_
  refine r_callS hC (c_cor hst h b n 0 c f w hb hw (Nat.zero_le _) (by omega) (by omega) hn) q457 q458 q48 q459 (n := 3) (by decide +kernel) rfl (Nat.le_of_ble_eq_true rfl) (Nat.le_of_ble_eq_true rfl) rfl (Nat.le_of_ble_eq_true rfl) (cb' := 0) (sb' := 0) (by omega) (by omega) dJ2_init_2_32 znx (fun v9 h9 e9 => ?_)
  obtain ⟨b', rfl, k1, k2, rfl⟩ := e9
  have hsb' : s ≠ b' := fun e => by rw [e, k1] at hs; cases hs
  have hs' : (zup h b' (.inl (4, c - 0, va_cpy f (fun _ => .int 0) 0 0 (c - 0)))) s = some (.inr (7, [.null, .int 0])) := by rw [zup_n hsb']; exact hs
  refine r_putF hC 0 in_J2b tyJ2 tyJ2b_ok nmJ2b (ci := 7) rfl hN (by assumption) hs' (by decide) ⟨rfl, rfl, rfl, rfl⟩ q553 (by decide +kernel : parseFieldDescriptor "[B" = some (.array .byte)) rfl rfl (by simp) rfl dJ2_init_2_35 ?_
  refine r_goto hC dJ2_init_2_38 (tgt := 97) (by decide) ?_
  exact r_vret hC hE rfl dJ2_init_2_97 ⟨rfl, b', _, k1, (zcpy0 (v := w) hw (by omega)).congr (fun x _ => by rw [Nat.zero_add]), rfl⟩
theorem c_sInit (hl : l.stackTraces = false) (h : zH) (s q b n c : Nat) (f : Nat → Value) (w : Nat → Nat) (m : Int32) (hA : zA g s) (hs : h s = some (.inr (7, [.null, .int 0]))) (hq : h q = some (.inr (6, [.ref b, .int 0, .int m, .int (nI c)]))) (hb : h b = some (.inl (4, n, f))) (hw : zBy f w n) (hc : c < n) (hn : n < 1000) :
    zM g l yJ2_init (ws_ yJ2_init cJ2_init 2 none) 4 130 1 c [.ref s, .ref q] h (fun u h' => u = none ∧ ∃ b' f', h b' = none ∧ zBy f' w c ∧ h' = zup (zup h b' (.inl (4, c, f'))) s (.inr (7, [.ref b', .int 0]))) zNx := by
  refine zM.of (cc := cJ2_init) (nL := 2) (ret := none) (by decide) hl (zcat rfl) (Nat.le_of_ble_eq_true rfl) ?_
  intro Z hg hz hC hE hN
  subst hg
  subst hz
  change zW Z _ _ _ 0 [some _, some _] []
  have hst := hC.2.2.2.2.2.2.2.1
  refine r_aload_n hC dJ2_init_0 rfl (by first | rfl | exact zisR_rf _) ?_
  refine r_aload_n hC dJ2_init_1 rfl (by first | rfl | exact zisR_rf _) ?_
  refine r_null hC dJ2_init_2 ?_
  refine r_callI hC (c_sInit2 hst h s q b n c f w m hA hs hq hb hw hc hn) q446 q447 q39 q448 rfl (n := 2) (by decide +kernel) rfl (Nat.le_of_ble_eq_true rfl) (Nat.le_of_ble_eq_true rfl) rfl (Nat.le_of_ble_eq_true rfl) (cb' := 0) (sb' := 0) (by omega) (by omega) dJ2_init_3 znx (fun v9 h9 e9 => ?_)
  obtain ⟨rfl, b', f', k1, k2, rfl⟩ := e9
  exact r_vret hC hE rfl dJ2_init_6 ⟨rfl, b', f', k1, k2, rfl⟩
theorem c_bStr (hl : l.stackTraces = false) (h : zH) (q b n c : Nat) (f : Nat → Value) (w : Nat → Nat) (m : Int32) (hq : h q = some (.inr (6, [.ref b, .int 0, .int m, .int (nI c)]))) (hb : h b = some (.inl (4, n, f))) (hw : zBy f w n) (hc : c < n) (hn : n < 1000) :
    zM g l yJ1_toString (ws_ yJ1_toString cJ1_toString 1 (some (.object "java/lang/String"))) 5 151 2 (c + 4) [.ref q] h (fun u h' => ∃ q' : Nat, u = some (.ref q') ∧ zLe h h' ∧ zStr h' q' c w) zNx := by
  refine zM.of (cc := cJ1_toString) (nL := 1) (ret := (some (.object "java/lang/String"))) (by decide) hl (zcat rfl) (Nat.le_of_ble_eq_true rfl) ?_
  intro Z hg hz hC hE hN
  subst hg
  subst hz
  change zW Z _ _ _ 0 [some _] []
  have hst := hC.2.2.2.2.2.2.2.1
  refine r_new hC in_J2b tyJ2 tyJ2b_ok (ci := 7) (fs := [.null, .int 0]) rfl q441 q442 q39 (by decide) (cb' := 1) (sb' := c) (by omega) (by omega) dJ1_toString_0 (fun s2 hs2 hAs2 => ?_)
  have hqs : q ≠ s2 := fun e => by rw [e, hs2] at hq; cases hq
  have hbs : b ≠ s2 := fun e => by rw [e, hs2] at hb; cases hb
  refine r_dup hC dJ1_toString_3 (by first | rfl | exact zcat1 _) ?_
  refine r_aload_n hC dJ1_toString_4 rfl (by first | rfl | exact zisR_rf _) ?_
  refine r_callI hC (c_sInit hst _ s2 q b n c f w m hAs2 zup_s (by rw [zup_n hqs]; exact hq) (by rw [zup_n hbs]; exact hb) hw hc hn) q443 q444 q39 q445 rfl (n := 1) (by decide +kernel) rfl (Nat.le_of_ble_eq_true rfl) (Nat.le_of_ble_eq_true rfl) rfl (Nat.le_of_ble_eq_true rfl) (cb' := 0) (sb' := 0) (by omega) (by omega) dJ1_toString_5 znx (fun v9 h9 e9 => ?_)
  obtain ⟨rfl, b', f', k1, k2, rfl⟩ := e9
  have hb's : b' ≠ s2 := fun e => by rw [e, zup_s] at k1; cases k1
  have k3 : h b' = none := by rw [zup_n hb's] at k1; exact k1
  have hle : zLe h (zup (zup (zup h s2 (.inr (7, [.null, .int 0]))) b' (.inl (4, c, f'))) s2 (.inr (7, [.ref b', .int 0]))) := ((zLe.new hs2).put k3).put hs2
  exact r_aret hC hE rfl (by first | exact Or.inl ⟨_, rfl⟩ | exact Or.inr ⟨_, rfl⟩) (by first | rfl | exact zisR_rf _) dJ1_toString_8 ⟨s2, rfl, hle, b', f', zup_s, by rw [zup_n hb's, zup_s], k2⟩
theorem c_lcharAt (hl : l.stackTraces = false) (h : zH) (b n i : Nat) (f : Nat → Value) (w : Nat → Nat) (hb : h b = some (.inl (4, n, f))) (hw : zBy f w n) (hi : i < n) (hn : n < 1000) : zM g l yJ15_charAt (ws_ yJ15_charAt cJ15_charAt 2 (some .char)) 2 43 0 0 [.ref b, .int (nI i)] h (zRi (.int (nI (w i))) h) zNx := by
  refine zM.of (cc := cJ15_charAt) (nL := 2) (ret := (some .char)) (by decide) hl (zcat rfl) (Nat.le_of_ble_eq_true rfl) ?_
  intro Z hg hz hC hE hN
  subst hg
  subst hz
  change zW Z _ _ _ 0 [some _, some _] []
  have hst := hC.2.2.2.2.2.2.2.1
  refine r_iload_n hC dJ15_charAt_0 rfl ?_
  refine r_aload_n hC dJ15_charAt_1 rfl (by first | rfl | exact zisR_rf _) ?_
  refine r_alen hC dJ15_charAt_2 hb ?_
  refine r_callS hC (c_scheckIndex hst h i n hi (by omega)) q799 q800 q39 q801 (n := 2) (by decide +kernel) rfl (Nat.le_of_ble_eq_true rfl) (Nat.le_of_ble_eq_true rfl) rfl (Nat.le_of_ble_eq_true rfl) (Nat.le_refl _) (Nat.le_refl _) dJ15_charAt_3 znx (zrv ?_)
  refine r_aload_n hC dJ15_charAt_6 rfl (by first | rfl | exact zisR_rf _) ?_
  refine r_iload_n hC dJ15_charAt_7 rfl ?_
  refine r_ald hC 4 hb (vp_in_nI hi (by omega)) (v := .int (nI (w i))) (by rw [nI_clamp (by omega)]; exact (hw i hi).2) dJ15_charAt_8 (by simp) ?_
  refine r_sipush hC dJ15_charAt_9 (v := (nI 255)) (by decide) ?_
  refine r_iand hC dJ15_charAt_12 ?_
  rw [nI_b4 _ (hw i hi).1]
  refine r_i2c hC dJ15_charAt_13 ?_
  rw [nI_b5 _ (hw i hi).1]
  have hw1 := (hw i hi).1
  exact r_zret hC hE rfl (pk_charN (by omega)).1 dJ15_charAt_14 ⟨rfl, rfl⟩
theorem c_scharAt (hl : l.stackTraces = false) (h : zH) (q n i : Nat) (w : Nat → Nat) (hq : zStr h q n w) (hi : i < n) (hn : n < 1000) : zM g l yJ2_charAt (ws_ yJ2_charAt cJ2_charAt 2 (some .char)) 3 64 0 0 [.ref q, .int (nI i)] h (zRi (.int (nI (w i))) h) zNx := by
  refine zM.of (cc := cJ2_charAt) (nL := 2) (ret := (some .char)) (by decide) hl (zcat rfl) (Nat.le_of_ble_eq_true rfl) ?_
  intro Z hg hz hC hE hN
  subst hg
  subst hz
  change zW Z _ _ _ 0 [some _, some _] []
  have hst := hC.2.2.2.2.2.2.2.1
  obtain ⟨b, f, hq, hb, hw⟩ := hq
  refine r_aload_n hC dJ2_charAt_0 rfl (by first | rfl | exact zisR_rf _) ?_
  refine r_callV hC (c_sLat hst h q b hq) hq rfl q783 q784 q785 q39 q786 (n := 0) (by decide +kernel) rfl (Nat.le_of_ble_eq_true rfl) (Nat.le_of_ble_eq_true rfl) rfl (Nat.le_of_ble_eq_true rfl) (Nat.le_refl _) (Nat.le_refl _) dJ2_charAt_1 znx (zri ?_)
  refine r_if_eq hC dJ2_charAt_4 (tgt := 16) (by decide) (fun e => absurd e (by decide)) (fun _ => ?_)
  refine r_aload_n hC dJ2_charAt_7 rfl (by first | rfl | exact zisR_rf _) ?_
  refine r_get hC 0 in_J2b (ci := 7) rfl hq (by decide) ⟨rfl, rfl, rfl⟩ q553 rfl dJ2_charAt_8 ?_
  refine r_iload_n hC dJ2_charAt_11 rfl ?_
  refine r_callS hC (c_lcharAt hst h b n i f w hb hw hi hn) q796 q797 q56 q798 (n := 2) (by decide +kernel) rfl (Nat.le_of_ble_eq_true rfl) (Nat.le_of_ble_eq_true rfl) rfl (Nat.le_of_ble_eq_true rfl) (Nat.le_refl _) (Nat.le_refl _) dJ2_charAt_12 znx (zri ?_)
  have hw1 := (hw i hi).1
  exact r_zret hC hE rfl (pk_charN (by omega)).1 dJ2_charAt_15 ⟨rfl, rfl⟩
theorem c_leq (hl : l.stackTraces = false) (h : zH) (a b n1 n2 : Nat) (f1 f2 : Nat → Value) (w1 w2 : Nat → Nat) (ha : h a = some (.inl (4, n1, f1))) (hb : h b = some (.inl (4, n2, f2))) (hw1 : zBy f1 w1 n1) (hw2 : zBy f2 w2 n2) (hn1 : n1 < 1000) (hn2 : n2 < 1000) : zM g l yJ15_equals (ws_ yJ15_equals cJ15_equals 3 (some .boolean)) 0 0 0 0 [.ref a, .ref b] h (zRi (.int (nB (zEqW n1 w1 n2 w2))) h) zNx := by
  refine zM.of (cc := cJ15_equals) (nL := 3) (ret := (some .boolean)) (by decide) hl (zcat rfl) (Nat.le_of_ble_eq_true rfl) ?_
  intro Z hg hz hC hE hN
  subst hg
  subst hz
  change zW Z _ _ _ 0 [some _, some _, none] []
  have hst := hC.2.2.2.2.2.2.2.1
  refine r_aload_n hC dJ15_equals_0 rfl (by first | rfl | exact zisR_rf _) ?_
  refine r_alen hC dJ15_equals_1 ha ?_
  refine r_aload_n hC dJ15_equals_2 rfl (by first | rfl | exact zisR_rf _) ?_
  refine r_alen hC dJ15_equals_3 hb ?_
  refine r_icmp_neN hC dJ15_equals_4 (tgt := 34) (by decide) (by omega) (by omega) (fun e => ?_) (fun e => ?_)
  · have e0 : zEqW n1 w1 n2 w2 = false := by simp [zEqW, e]
    rw [e0] at hE
    refine r_iconst hC dJ15_equals_34 (v := (nI 0)) (by decide) ?_
    exact r_zret hC hE rfl (by first | rfl | exact nB_nz _ | exact nar_ch (by omega) | assumption) dJ15_equals_35 ⟨rfl, rfl⟩
  · subst e
    have lp : ∀ i, i ≤ n1 → zAll (fun j => w1 j == w2 j) i = true → zW Z h 0 0 9 [some (.ref a), some (.ref b), some (.int (nI i))] [] := by
      refine zloop n1 (fun i ih hi hall => ?_)
      refine r_iload_n hC dJ15_equals_9 rfl ?_
      refine r_aload_n hC dJ15_equals_10 rfl (by first | rfl | exact zisR_rf _) ?_
      refine r_alen hC dJ15_equals_11 ha ?_
      first | refine r_icmp_geN hC dJ15_equals_12 (tgt := 32) (by decide) (by first | omega | exact hB.1 _ | exact hB.2 _ _) (by first | omega | exact hB.1 _ | exact hB.2 _ _) (fun e1 => ?_) (fun e1 => ?_) | refine r_icmp_ge hC dJ15_equals_12 (tgt := 32) (by decide) (fun e1 => ?_) (fun e1 => ?_)
      · obtain rfl : i = n1 := by omega
        have e0 : zEqW i w1 i w2 = true := by simp [zEqW, hall]
        rw [e0] at hE
        refine r_iconst hC dJ15_equals_32 (v := (nI 1)) (by decide) ?_
        exact r_zret hC hE rfl (by first | rfl | exact nB_nz _ | exact nar_ch (by omega) | assumption) dJ15_equals_33 ⟨rfl, rfl⟩
      · refine r_aload_n hC dJ15_equals_15 rfl (by first | rfl | exact zisR_rf _) ?_
        refine r_iload_n hC dJ15_equals_16 rfl ?_
        refine r_ald hC 4 ha (vp_in_nI e1 (by omega)) (v := .int (nI (w1 i))) (by rw [nI_clamp (by omega)]; exact (hw1 i e1).2) dJ15_equals_17 (by simp) ?_
        refine r_aload_n hC dJ15_equals_18 rfl (by first | rfl | exact zisR_rf _) ?_
        refine r_iload_n hC dJ15_equals_19 rfl ?_
        refine r_ald hC 4 hb (vp_in_nI e1 (by omega)) (v := .int (nI (w2 i))) (by rw [nI_clamp (by omega)]; exact (hw2 i e1).2) dJ15_equals_20 (by simp) ?_
        have b1 := (hw1 i e1).1
        have b2 := (hw2 i e1).1
        refine r_icmp_eqN hC dJ15_equals_21 (tgt := 26) (by decide) (by omega) (by omega) (fun e2 => ?_) (fun e2 => ?_)
        · refine r_inc2 hC dJ15_equals_26 (by first | exact (nI_1 _) | rfl) ?_
          refine r_goto hC dJ15_equals_29 (tgt := 9) (by decide) ?_
          exact ih e1 (by omega) (by simp [zAll, hall, e2])
        · have e0 : zEqW n1 w1 n1 w2 = false := by
            have : zAll (fun j => w1 j == w2 j) n1 = false := zAll_mono (k := i + 1) (by simp [zAll, e2]) (by omega)
            simp [zEqW, this]
          rw [e0] at hE
          refine r_iconst hC dJ15_equals_24 (v := (nI 0)) (by decide) ?_
          exact r_zret hC hE rfl (by first | rfl | exact nB_nz _ | exact nar_ch (by omega) | assumption) dJ15_equals_25 ⟨rfl, rfl⟩
    refine r_iconst hC dJ15_equals_7 (v := (nI 0)) (by decide) ?_
    refine r_ist2 hC dJ15_equals_8 ?_
    exact lp 0 (by omega) rfl
theorem c_sEq (hl : l.stackTraces = false) (h : zH) (p q n1 n2 : Nat) (w1 w2 : Nat → Nat) (hp : zStr h p n1 w1) (hq : zStr h q n2 w2) (hn1 : n1 < 1000) (hn2 : n2 < 1000) : zM g l yJ2_equals (ws_ yJ2_equals cJ2_equals 3 (some .boolean)) 1 22 0 0 [.ref p, .ref q] h (zRi (.int (nB (zEqW n1 w1 n2 w2))) h) zNx := by
  refine zM.of (cc := cJ2_equals) (nL := 3) (ret := (some .boolean)) (by decide) hl (zcat rfl) (Nat.le_of_ble_eq_true rfl) ?_
  intro Z hg hz hC hE hN
  subst hg
  subst hz
  change zW Z _ _ _ 0 [some _, some _, none] []
  have hst := hC.2.2.2.2.2.2.2.1
  refine r_aload_n hC dJ2_equals_0 rfl (by first | rfl | exact zisR_rf _) ?_
  refine r_aload_n hC dJ2_equals_1 rfl (by first | rfl | exact zisR_rf _) ?_
  refine r_acmp_ne hC dJ2_equals_2 (tgt := 7) (by decide) (x := some p) (y := some q) rfl rfl (fun _ => ?_) (fun e => ?_)
  · obtain ⟨b1, f1, k1, k2, k3⟩ := hp
    obtain ⟨b2, f2, j1, j2, j3⟩ := hq
    refine r_aload_n hC dJ2_equals_7 rfl (by first | rfl | exact zisR_rf _) ?_
    refine r_instY hC j1 rfl (nm := "java/lang/String") q763 (Or.inr rfl) dJ2_equals_8 ?_
    refine r_if_eq hC dJ2_equals_11 (tgt := 54) (by decide) (fun e => absurd e (by decide)) (fun _ => ?_)
    refine r_aload_n hC dJ2_equals_14 rfl (by first | rfl | exact zisR_rf _) ?_
    refine r_castY hC j1 rfl (nm := "java/lang/String") q763 (Or.inr rfl) dJ2_equals_15 ?_
    refine r_ast2 hC dJ2_equals_18 (by first | rfl | exact zisR_rf _) ?_
    refine r_gets hC (zk_cs hC) q377 dJ2_equals_19 ?_
    refine r_if_eq hC dJ2_equals_22 (tgt := 36) (by decide) (fun e => absurd e (by decide)) (fun _ => ?_)
    refine r_aload_n hC dJ2_equals_25 rfl (by first | rfl | exact zisR_rf _) ?_
    refine r_get hC 1 in_J2b (ci := 7) rfl k1 (by decide) ⟨rfl, rfl, rfl⟩ q554 rfl dJ2_equals_26 ?_
    refine r_aload_n hC dJ2_equals_29 rfl (by first | rfl | exact zisR_rf _) ?_
    refine r_get hC 1 in_J2b (ci := 7) rfl j1 (by decide) ⟨rfl, rfl, rfl⟩ q554 rfl dJ2_equals_30 ?_
    refine r_icmp_ne hC dJ2_equals_33 (tgt := 54) (by decide) (fun e => absurd rfl e) (fun _ => ?_)
    refine r_aload_n hC dJ2_equals_36 rfl (by first | rfl | exact zisR_rf _) ?_
    refine r_get hC 0 in_J2b (ci := 7) rfl k1 (by decide) ⟨rfl, rfl, rfl⟩ q553 rfl dJ2_equals_37 ?_
    refine r_aload_n hC dJ2_equals_40 rfl (by first | rfl | exact zisR_rf _) ?_
    refine r_get hC 0 in_J2b (ci := 7) rfl j1 (by decide) ⟨rfl, rfl, rfl⟩ q553 rfl dJ2_equals_41 ?_
    refine r_callS hC (c_leq hst h b1 b2 n1 n2 f1 f2 w1 w2 k2 j2 k3 j3 hn1 hn2) q768 q769 q56 q770 (n := 2) (by decide +kernel) rfl (Nat.le_of_ble_eq_true rfl) (Nat.le_of_ble_eq_true rfl) rfl (Nat.le_of_ble_eq_true rfl) (Nat.le_refl _) (Nat.le_refl _) dJ2_equals_44 znx (zri ?_)
    refine r_if_eqB hC dJ2_equals_47 (tgt := 54) (by decide) (fun e => ?_) (fun e => ?_)
    · rw [e] at hE
      refine r_iconst hC dJ2_equals_54 (v := (nI 0)) (by decide) ?_
      exact r_zret hC hE rfl (by first | rfl | exact nB_nz _ | exact nar_ch (by omega) | assumption) dJ2_equals_55 ⟨rfl, rfl⟩
    · rw [e] at hE
      refine r_iconst hC dJ2_equals_50 (v := (nI 1)) (by decide) ?_
      refine r_goto hC dJ2_equals_51 (tgt := 55) (by decide) ?_
      exact r_zret hC hE rfl (by first | rfl | exact nB_nz _ | exact nar_ch (by omega) | assumption) dJ2_equals_55 ⟨rfl, rfl⟩
  · injection e with e
    subst e
    obtain ⟨rfl, e1⟩ := hp.len hq
    have e0 : zEqW n1 w1 n1 w2 = true := by
      have : zAll (fun j => w1 j == w2 j) n1 = true := zAll_iff.mpr (fun j hj => by simp [e1 j hj])
      simp [zEqW, this]
    rw [e0] at hE
    refine r_iconst hC dJ2_equals_5 (v := (nI 1)) (by decide) ?_
    exact r_zret hC hE rfl (by first | rfl | exact nB_nz _ | exact nar_ch (by omega) | assumption) dJ2_equals_6 ⟨rfl, rfl⟩
end JD5

