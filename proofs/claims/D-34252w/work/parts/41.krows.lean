/-! ROWS ON THE COMPONENT's WORLD -/
set_option maxRecDepth 100000
abbrev kRf (A : Nat → Nat) (o : Option Nat) : Value := va_rf (o.map (fun p => A (29 + p)))
theorem k_sel {g : zG} {A : Nat → Nat} {k : kS} {h : zH} (hK : kIs g A k h) {j : Nat} (hj : j < 9 + kZ k 0) {y : MethodName} (q2 : Cond.selects RX2 y y ∈ lw_all) (q3 : Cond.selects RX3 y y ∈ lw_all) : ∃ (ci : Nat) (fs : List Value) (r : vw_C), h (A (20 + j)) = some (.inr (ci, fs)) ∧ zcl[ci]? = some r ∧ Cond.selects r.1 y y ∈ lw_all := by
  rcases k_acc hK hj with ⟨-, e⟩ | ⟨-, e⟩
  · exact ⟨1, _, (RX2, TX2, 7), e, rfl, q2⟩
  · exact ⟨2, _, (RX3, TX3, 9), e, rfl, q3⟩
section KR
variable {Z : zZ} {cc : ByteArray} {ret : Option FieldType} {own : String} {hh : List (Nat × Nat × Nat × Nat)} {fr lo : Nat}
variable {h : zH} {cb sb pc : Nat} {L : List (Option Value)} {st rest : List Value} {A : Nat → Nat} {k : kS}
theorem a_get (hC : zC Z cc ret own hh fr lo) (hK : kIs Z.1 A k h) {j : Nat} (f : Nat) {index : Nat} {nm : String} (hj : j < 9 + kZ k 0) (hf : f < 7) (hT2 : TX2 f = (RX2, nm, "I", false)) (hT3 : TX3 f = (RX2, nm, "I", false)) (hq : Cond.fieldLink own index RX2 nm "I" ∈ lw_all) (d : decode cc pc = .ok (.getfield index, 3)) (kk : zW Z h cb sb (pc + 3) L (.int (kA k j f) :: rest)) : zW Z h cb sb pc L (.ref (A (20 + j)) :: rest) := by
  rcases k_acc hK hj with ⟨-, e⟩ | ⟨-, e⟩
  · exact r_get hC f in_X2 (ci := 1) rfl e hf ⟨by rw [hT2], by rw [hT2], by rw [hT2]⟩ hq (kAf_get hf) d kk
  · exact r_get hC f in_X3 (ci := 2) rfl e (by omega) ⟨by rw [hT3], by rw [hT3], by rw [hT3]⟩ hq (by rw [List.getElem?_append_left (by rw [kAf_len]; exact hf)]; exact kAf_get hf) d kk
theorem a_getN (hC : zC Z cc ret own hh fr lo) (hK : kIs Z.1 A k h) {j : Nat} (f : Nat) {index : Nat} {nm host : String} (hj : j < 9 + kZ k 0) (hf : f < 7) (hT2 : TX2 f = (RX2, nm, "I", false)) (hT3 : TX3 f = (RX2, nm, "I", false)) (hq : (own, index, RX2, nm, "I", host) ∈ zNf) (d : decode cc pc = .ok (.getfield index, 3)) (kk : zW Z h cb sb (pc + 3) L (.int (kA k j f) :: rest)) : zW Z h cb sb pc L (.ref (A (20 + j)) :: rest) := by
  rcases k_acc hK hj with ⟨-, e⟩ | ⟨-, e⟩
  · exact r_getN hC f in_X2 (ci := 1) rfl e hf ⟨by rw [hT2], by rw [hT2], by rw [hT2]⟩ hq (kAf_get hf) d kk
  · exact r_getN hC f in_X3 (ci := 2) rfl e (by omega) ⟨by rw [hT3], by rw [hT3], by rw [hT3]⟩ hq (by rw [List.getElem?_append_left (by rw [kAf_len]; exact hf)]; exact kAf_get hf) d kk
theorem k_wr (hK : kIs Z.1 A k h) {n : Nat} (hn : kNb k n = true) : zA Z.1 (A n) := (hK.1 n hn).2
theorem a_put (hC : zC Z cc ret own hh fr lo) (hK : kIs Z.1 A k h) {j : Nat} (f : Nat) {index : Nat} {nm : String} {x : Int32} (hj : j < 9 + kZ k 0) (hf : f < 7) (hT2 : TX2 f = (RX2, nm, "I", false)) (hT3 : TX3 f = (RX2, nm, "I", false)) (hq : Cond.fieldLink own index RX2 nm "I" ∈ lw_all) (d : decode cc pc = .ok (.putfield index, 3)) (kk : zW Z (kH A (kuA k j f x) h) cb sb (pc + 3) L rest) : zW Z h cb sb pc L (.int x :: .ref (A (20 + j)) :: rest) := by
  have hw := k_wr hK (kna hj)
  have hB := hK.2.2.2.1
  rcases k_acc hK hj with ⟨c, e⟩ | ⟨c, e⟩
  · refine r_put hC f in_X2 tyX2 tyX2_ok nmX2 (ci := 1) rfl hw e hf ⟨by rw [hT2], by rw [hT2], by rw [hT2], by rw [hT2]⟩ hq (by decide +kernel : parseFieldDescriptor "I" = some .int) rfl rfl (by rw [kAf_len]; exact hf) (kAf_set hf) d ?_
    rw [← kEa (A := A) c, kput_a hK x hj]; exact kk
  · refine r_put hC f in_X3 tyX3 tyX3_ok nmX3 (ci := 2) rfl hw e (by omega) ⟨by rw [hT3], by rw [hT3], by rw [hT3], by rw [hT3]⟩ hq (by decide +kernel : parseFieldDescriptor "I" = some .int) rfl rfl (by rw [List.length_append, kAf_len]; omega) (by rw [List.set_append_left _ _ (by rw [kAf_len]; exact hf), kAf_set hf]) d ?_
    rw [← kEp (A := A) c (by omega), kput_a hK x hj]; exact kk
theorem a_putN (hC : zC Z cc ret own hh fr lo) (hK : kIs Z.1 A k h) {j : Nat} (f : Nat) {index : Nat} {nm host : String} {x : Int32} (hj : j < 9 + kZ k 0) (hf : f < 7) (hT2 : TX2 f = (RX2, nm, "I", false)) (hT3 : TX3 f = (RX2, nm, "I", false)) (hq : (own, index, RX2, nm, "I", host) ∈ zNf) (d : decode cc pc = .ok (.putfield index, 3)) (kk : zW Z (kH A (kuA k j f x) h) cb sb (pc + 3) L rest) : zW Z h cb sb pc L (.int x :: .ref (A (20 + j)) :: rest) := by
  have hw := k_wr hK (kna hj)
  have hB := hK.2.2.2.1
  rcases k_acc hK hj with ⟨c, e⟩ | ⟨c, e⟩
  · refine r_putN hC f in_X2 tyX2 tyX2_ok nmX2 (ci := 1) rfl hw e hf ⟨by rw [hT2], by rw [hT2], by rw [hT2], by rw [hT2]⟩ hq (by decide +kernel : parseFieldDescriptor "I" = some .int) rfl rfl (by rw [kAf_len]; exact hf) (kAf_set hf) d ?_
    rw [← kEa (A := A) c, kput_a hK x hj]; exact kk
  · refine r_putN hC f in_X3 tyX3 tyX3_ok nmX3 (ci := 2) rfl hw e (by omega) ⟨by rw [hT3], by rw [hT3], by rw [hT3], by rw [hT3]⟩ hq (by decide +kernel : parseFieldDescriptor "I" = some .int) rfl rfl (by rw [List.length_append, kAf_len]; omega) (by rw [List.set_append_left _ _ (by rw [kAf_len]; exact hf), kAf_set hf]) d ?_
    rw [← kEp (A := A) c (by omega), kput_a hK x hj]; exact kk
/-- entry: blocks (0), held (1) -/
theorem e_putN (hC : zC Z cc ret own hh fr lo) (hK : kIs Z.1 A k h) {i : Nat} (t : Nat) {index : Nat} {nm host : String} {x : Int32} (hi : i < kZ k 1) (ht : t < 2) (hT : TX5 (3 + t) = (RX5, nm, "I", false)) (hq : (own, index, RX5, nm, "I", host) ∈ zNf) (d : decode cc pc = .ok (.putfield index, 3)) (kk : zW Z (kH A (kuI k t i x) h) cb sb (pc + 3) L rest) : zW Z h cb sb pc L (.int x :: .ref (A (60 + i)) :: rest) := by
  have hB := hK.2.2.2.2.1
  have e : ([.int (nI i), .int (nI (kT k 0 i)), .ref (A (29 + kT k 1 i)), .int (kI k 0 i), .int (kI k 1 i), .int (nI (kT k 2 i))] : List Value).set (3 + t) (.int x) = [.int (nI i), .int (nI (kT (kuI k t i x) 0 i)), .ref (A (29 + kT (kuI k t i x) 1 i)), .int (kI (kuI k t i x) 0 i), .int (kI (kuI k t i x) 1 i), .int (nI (kT (kuI k t i x) 2 i))] := by
    match t, ht with
    | 0, _ => simp [kuI, kI, kT]
    | 1, _ => simp [kuI, kI, kT]
  refine r_putN hC (3 + t) in_X5 tyX5 tyX5_ok nmX5 (ci := 3) rfl (k_wr hK (kni hi)) (k_ent hK hi) (by omega) ⟨by rw [hT], by rw [hT], by rw [hT], by rw [hT]⟩ hq (by decide +kernel : parseFieldDescriptor "I" = some .int) rfl rfl (by show 3 + t < 6; omega) e d ?_
  rw [← kEi (A := A) (k := kuI k t i x) (by omega), kput_i hK x ht hi]; exact kk
theorem e_putDel (hC : zC Z cc ret own hh fr lo) (hK : kIs Z.1 A k h) {i : Nat} {index : Nat} {nm host : String} {x : Nat} (hi : i < kZ k 1) (hx : x < 2) (hT : TX5 5 = (RX5, nm, "Z", false)) (hq : (own, index, RX5, nm, "Z", host) ∈ zNf) (d : decode cc pc = .ok (.putfield index, 3)) (kk : zW Z (kH A (kuT k 2 i x) h) cb sb (pc + 3) L rest) : zW Z h cb sb pc L (.int (nI x) :: .ref (A (60 + i)) :: rest) := by
  have hB := hK.2.2.2.2.1
  have hx' : x = 0 ∨ x = 1 := by omega
  refine r_putN hC 5 in_X5 tyX5 tyX5_ok nmX5 (ci := 3) (fs' := [.int (nI i), .int (nI (kT (kuT k 2 i x) 0 i)), .ref (A (29 + kT (kuT k 2 i x) 1 i)), .int (kI (kuT k 2 i x) 0 i), .int (kI (kuT k 2 i x) 1 i), .int (nI (kT (kuT k 2 i x) 2 i))]) rfl (k_wr hK (kni hi)) (k_ent hK hi) (by decide) ⟨by rw [hT], by rw [hT], by rw [hT], by rw [hT]⟩ hq (by decide +kernel : parseFieldDescriptor "Z" = some .boolean) (by rcases hx' with rfl | rfl <;> rfl) (by rcases hx' with rfl | rfl <;> rfl) (by show 5 < 6; decide) (by simp [kuT, kI, kT, nup2]) d ?_
  rw [← kEi (A := A) (k := kuT k 2 i x) (by omega), kput_t hK x (by decide) hi]; exact kk
theorem e_putPrj (hC : zC Z cc ret own hh fr lo) (hK : kIs Z.1 A k h) {i : Nat} {index : Nat} {nm host : String} {p : Nat} (hi : i < kZ k 1) (hT : TX5 2 = (RX5, nm, "LAllotmentLedger$Project;", false)) (hq : (own, index, RX5, nm, "LAllotmentLedger$Project;", host) ∈ zNf) (d : decode cc pc = .ok (.putfield index, 3)) (kk : zW Z (kH A (kuT k 1 i p) h) cb sb (pc + 3) L rest) : zW Z h cb sb pc L (.ref (A (29 + p)) :: .ref (A (60 + i)) :: rest) := by
  have hB := hK.2.2.2.2.1
  refine r_putN hC 2 in_X5 tyX5 tyX5_ok nmX5 (ci := 3) (fs' := [.int (nI i), .int (nI (kT (kuT k 1 i p) 0 i)), .ref (A (29 + kT (kuT k 1 i p) 1 i)), .int (kI (kuT k 1 i p) 0 i), .int (kI (kuT k 1 i p) 1 i), .int (nI (kT (kuT k 1 i p) 2 i))]) rfl (k_wr hK (kni hi)) (k_ent hK hi) (by decide) ⟨by rw [hT], by rw [hT], by rw [hT], by rw [hT]⟩ hq (by decide +kernel : parseFieldDescriptor "LAllotmentLedger$Project;" = some (.object "AllotmentLedger$Project")) rfl rfl (by show 2 < 6; decide) (by simp [kuT, kI, kT, nup2]) d ?_
  rw [← kEi (A := A) (k := kuT k 1 i p) (by omega), kput_t hK p (by decide) hi]; exact kk
theorem v_putCl (hC : zC Z cc ret own hh fr lo) (hK : kIs Z.1 A k h) {r : Nat} {index : Nat} {nm host : String} {x : Nat} (hr : r < kZ k 2) (hx : x < 2) (hT : TX6 2 = (RX6, nm, "Z", false)) (hq : (own, index, RX6, nm, "Z", host) ∈ zNf) (d : decode cc pc = .ok (.putfield index, 3)) (kk : zW Z (kH A (kuT k 4 r x) h) cb sb (pc + 3) L rest) : zW Z h cb sb pc L (.int (nI x) :: .ref (A (100 + r)) :: rest) := by
  have hx' : x = 0 ∨ x = 1 := by omega
  refine r_putN hC 2 in_X6 tyX6 tyX6_ok nmX6 (ci := 4) (fs' := [.ref (A (60 + kT (kuT k 4 r x) 3 r)), .int (kI (kuT k 4 r x) 2 r), .int (nI (kT (kuT k 4 r x) 4 r))]) rfl (k_wr hK (knr hr)) (k_res hK hr) (by decide) ⟨by rw [hT], by rw [hT], by rw [hT], by rw [hT]⟩ hq (by decide +kernel : parseFieldDescriptor "Z" = some .boolean) (by rcases hx' with rfl | rfl <;> rfl) (by rcases hx' with rfl | rfl <;> rfl) (by show 2 < 3; decide) (by simp [kuT, kI, kT, nup2]) d ?_
  rw [← kEr (A := A) (k := kuT k 4 r x), kput_r hK x hr]; exact kk
/-- the ledger's now and recounted -/
theorem l_putNow (hC : zC Z cc ret own hh fr lo) (hK : kIs Z.1 A k h) {index : Nat} {x : Int32} (hq : Cond.fieldLink own index RX1 "now" "I" ∈ lw_all) (d : decode cc pc = .ok (.putfield index, 3)) (kk : zW Z (kH A (kuN k x) h) cb sb (pc + 3) L rest) : zW Z h cb sb pc L (.int x :: .ref (A 0) :: rest) := by
  refine r_put hC 6 in_X1 tyX1 tyX1_ok nmX1 (ci := 0) (fs' := [.ref (A 1), .ref (A 3), .ref (A 4), .ref (A 5), .ref (A 6), .ref (A 7), .int (kN (kuN k x)).1, .int (kN (kuN k x)).2]) rfl (k_wr hK kn0) (k_led hK) (by decide) ⟨rfl, rfl, rfl, rfl⟩ hq (by decide +kernel : parseFieldDescriptor "I" = some .int) rfl rfl (by show 6 < 8; decide) rfl d ?_
  rw [← kE0 (A := A) (k := kuN k x), kput_0 (k' := kuN k x) hK kuN_same rfl rfl rfl]; exact kk
theorem l_putRec (hC : zC Z cc ret own hh fr lo) (hK : kIs Z.1 A k h) {index : Nat} {x : Int32} (hq : Cond.fieldLink own index RX1 "recounted" "I" ∈ lw_all) (d : decode cc pc = .ok (.putfield index, 3)) (kk : zW Z (kH A (kuR k x) h) cb sb (pc + 3) L rest) : zW Z h cb sb pc L (.int x :: .ref (A 0) :: rest) := by
  refine r_put hC 7 in_X1 tyX1 tyX1_ok nmX1 (ci := 0) (fs' := [.ref (A 1), .ref (A 3), .ref (A 4), .ref (A 5), .ref (A 6), .ref (A 7), .int (kN (kuR k x)).1, .int (kN (kuR k x)).2]) rfl (k_wr hK kn0) (k_led hK) (by decide) ⟨rfl, rfl, rfl, rfl⟩ hq (by decide +kernel : parseFieldDescriptor "I" = some .int) rfl rfl (by show 7 < 8; decide) rfl d ?_
  rw [← kE0 (A := A) (k := kuR k x), kput_0 (k' := kuR k x) hK kuR_same rfl rfl rfl]; exact kk
/-- a call on an account of whichever kind -/
theorem r_callA (hC : zC Z cc ret own hh fr lo) {y : MethodName} {bytes : ByteArray} {maxL index n fr' lo' mc ms : Nat} {ry : Option FieldType} {As : List Value} {post : Option Value → zH → Prop} {px : String → zH → Prop} {b : Nat}
    (hM : zM Z.1 (zl Z) y (ws_ y bytes maxL ry) fr' lo' mc ms (.ref b :: As) h post px) (hs : ∃ (ci : Nat) (fs : List Value) (r : vw_C), h b = some (.inr (ci, fs)) ∧ zcl[ci]? = some r ∧ Cond.selects r.1 y y ∈ lw_all)
    (q1 : Cond.methodLink own index y ∈ lw_all) (q2 : Cond.instanceMethod y ∈ lw_all) (q4 : Cond.initialized y.cls ∈ lw_all) (q5 : Cond.code y bytes maxL ry ∈ lw_all)
    (hd : y.cls ≠ "java/lang/invoke/MethodHandle" ∧ y.cls ≠ "java/lang/invoke/VarHandle" ∧ (parseMethodDescriptor y.desc).map (fun d => d.parameters.length) = some n) (hn : As.length = n) (hfr : fr' + 1 ≤ fr) (hlo : 8 + (maxL + 11) + lo' ≤ lo) (hst : st = As.reverse ++ .ref b :: rest) (hsum : (rest.map fun v => v.category).sum ≤ 8)
    {cb' sb' : Nat} (h1 : cb' + mc ≤ cb) (h2 : sb' + ms ≤ sb) (d : decode cc pc = .ok (.invokevirtual index, 3)) (kx : ∀ E h', px E h' → zWx Z h' cb' sb' pc L rest E) (kk : ∀ v h', post v h' → zW Z h' cb' sb' (pc + 3) L (v.toList ++ rest)) : zW Z h cb sb pc L st := by
  obtain ⟨ci, fs, r, e1, e2, e3⟩ := hs
  exact r_callV hC hM e1 e2 q1 q2 e3 q4 q5 hd hn hfr hlo hst hsum h1 h2 d kx kk
end KR
/-- accounts -/
def kOv (k : kS) (j : Nat) : Bool := !decide (kA k j 0 = -1) && decide (kA k j 0 < kA k j 3)
def kGn (k : kS) (j : Nat) (t : Int32) : Bool := !decide (kA k j 6 = -1) && decide (48 ≤ t - kA k j 6)
def kBb (k : kS) (j : Nat) (more t : Int32) : Bool := (!decide (kA k j 1 = -1) && decide (kA k j 1 < kA k j 3 + more)) || kGn k j t
def kBf (k : kS) (j : Nat) : Bool := !decide (kA k j 2 = -1) && decide (kA k j 2 < kA k j 4 + 1)
def kSn (k : kS) (j : Nat) (t : Int32) : Int32 := if kOv k j then (if kA k j 6 = -1 then t else kA k j 6) else -1
def kLk (k : kS) (j : Nat) (t : Int32) : kS := kuA k j 6 (kSn k j t)
def kUse (k : kS) (i : Nat) : Int32 := kI k 0 i + kI k 1 i
def kWi (k : kS) (p q : Nat) : Bool := zPre (kT k 5 p) (kL k p) (kT k 5 q) (kL k q)
def kFd (k : kS) (n : Nat) (w : Nat → Nat) : Option Nat := zLast (fun p => zEqW (kT k 5 p) (kL k p) n w) (kZ k 0)
