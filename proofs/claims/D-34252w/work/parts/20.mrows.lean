/-! THE REFERENCE: its world as one overlay, rows on it -/
set_option maxRecDepth 100000
/-- scalars, arrays of naturals (fields up to 16), arrays of ints (17 .. 20), by field number -/
abbrev mS : Type := (Nat → Nat) × (Nat → Nat → Nat) × (Nat → Nat → Int32)
def nup (s : Nat → Nat) (k x : Nat) : Nat → Nat := fun j => if j = k then x else s j
def nup2 (t : Nat → Nat → Nat) (i k x : Nat) : Nat → Nat → Nat := fun a b => if a = i ∧ b = k then x else t a b
def iup2 (t : Nat → Nat → Int32) (i k : Nat) (x : Int32) : Nat → Nat → Int32 := fun a b => if a = i ∧ b = k then x else t a b
def mF (ad : Nat → Nat) (s : Nat → Nat) : List Value := [.int (nI (s 0)), .int (nI (s 1)), .ref (ad 2), .int (nI (s 3)), .ref (ad 4), .int (nI (s 5)), .ref (ad 6), .ref (ad 7), .int (nI (s 8)), .ref (ad 9), .ref (ad 10), .ref (ad 11), .ref (ad 12), .int (nI (s 13)), .ref (ad 14), .ref (ad 15), .ref (ad 16), .ref (ad 17), .ref (ad 18), .ref (ad 19), .ref (ad 20), .int (nI (s 21)), .int (nI (s 22))]
def mArr : List Nat := [2, 4, 6, 7, 9, 10, 11, 12, 14, 15, 16, 17, 18, 19, 20]
def mSc : List Nat := [0, 1, 3, 5, 8, 13, 21, 22]
def mK : Nat → Nat := fun i => if i = 2 ∨ i = 4 ∨ i = 6 then 2 else if i = 12 ∨ i = 16 then 3 else 0
def mN : Nat → Nat := fun i => if i = 2 ∨ i = 4 then 8 else if i = 6 then 168 else if i = 7 then 21 else if i < 14 then 40 else 30
def mC (S : mS) (i : Nat) : Nat → Value := if i ≤ 16 then fun j => .int (nI (S.2.1 i j)) else fun j => .int (S.2.2 i j)
def mH (o : Nat) (ad : Nat → Nat) (S : mS) (h0 : zH) : zH := fun a =>
  if a = o then some (.inr (5, mF ad S.1)) else match mArr.find? (fun i => ad i == a) with
    | some i => some (.inl (mK i, mN i, mC S i))
    | none => h0 a
def mD (g : zG) (o : Nat) (ad : Nat → Nat) : Prop := zA g o ∧ (∀ i ∈ mArr, zA g (ad i)) ∧ (∀ i ∈ mArr, ad i ≠ o) ∧ ∀ i ∈ mArr, ∀ j ∈ mArr, ad i = ad j → i = j
def mX (o : Nat) (ad : Nat → Nat) (a : Nat) : Prop := a = o ∨ ∃ i ∈ mArr, ad i = a
theorem mH_o {o : Nat} {ad : Nat → Nat} {S : mS} {h0 : zH} : mH o ad S h0 o = some (.inr (5, mF ad S.1)) := by simp [mH]
theorem m_find {g : zG} {o : Nat} {ad : Nat → Nat} (hD : mD g o ad) {i : Nat} (hi : i ∈ mArr) : mArr.find? (fun j => ad j == ad i) = some i := by
  cases hx : mArr.find? (fun j => ad j == ad i) with
  | none => exact absurd (by simp : (ad i == ad i) = true) (by simpa using List.find?_eq_none.mp hx i hi)
  | some j =>
    have h1 := List.find?_some hx
    have h2 := List.mem_of_find?_eq_some hx
    rw [hD.2.2.2 j h2 i hi (by simpa using h1)]
theorem mH_a {g : zG} {o : Nat} {ad : Nat → Nat} {S : mS} {h0 : zH} (hD : mD g o ad) {i : Nat} (hi : i ∈ mArr) : mH o ad S h0 (ad i) = some (.inl (mK i, mN i, mC S i)) := by
  simp [mH, hD.2.2.1 i hi, m_find hD hi]
theorem mH_x {o : Nat} {ad : Nat → Nat} {S : mS} {h0 : zH} {a : Nat} (h : ¬ mX o ad a) : mH o ad S h0 a = h0 a := by
  have h1 : a ≠ o := fun e => h (Or.inl e)
  have h2 : mArr.find? (fun i => ad i == a) = none := List.find?_eq_none.mpr (fun i hi => by
    intro e
    exact h (Or.inr ⟨i, hi, by simpa using e⟩))
  simp [mH, h1, h2]
theorem mH_mH {o : Nat} {ad : Nat → Nat} {S S' : mS} {h0 : zH} : mH o ad S (mH o ad S' h0) = mH o ad S h0 := by
  funext a
  unfold mH
  by_cases h : a = o
  · simp [h]
  · simp only [h, if_false]
    cases mArr.find? (fun i => ad i == a) <;> rfl
theorem mH_put {o : Nat} {ad : Nat → Nat} {S : mS} {h0 : zH} {s' : Nat → Nat} : zup (mH o ad S h0) o (.inr (5, mF ad s')) = mH o ad (s', S.2) h0 := by
  funext a
  unfold zup mH
  by_cases h : a = o
  · simp [h]
  · simp only [h, if_false]
    cases mArr.find? (fun i => ad i == a) <;> rfl
theorem mH_sto {g : zG} {o : Nat} {ad : Nat → Nat} {S S' : mS} {h0 : zH} (hD : mD g o ad) {i : Nat} (hi : i ∈ mArr) (h1 : S'.1 = S.1) (h2 : ∀ j, j ≠ i → mC S' j = mC S j) : zup (mH o ad S h0) (ad i) (.inl (mK i, mN i, mC S' i)) = mH o ad S' h0 := by
  funext a
  unfold zup
  by_cases h : a = ad i
  · subst h
    rw [if_pos rfl, mH_a hD hi]
  · rw [if_neg h]
    unfold mH
    by_cases ho : a = o
    · simp [ho, h1]
    · simp only [ho, if_false]
      cases hx : mArr.find? (fun i => ad i == a) with
      | none => rfl
      | some j =>
        have h3 := List.find?_some hx
        have h4 : ad j = a := by simpa using h3
        have h5 : j ≠ i := fun e => h (by rw [← h4, e])
        simp only [h2 j h5]
theorem mF_set {ad : Nat → Nat} {s : Nat → Nat} {k x : Nat} (hk : k ∈ mSc) : (mF ad s).set k (.int (nI x)) = mF ad (nup s k x) := by
  simp only [mSc, List.mem_cons, List.not_mem_nil, or_false] at hk
  rcases hk with rfl | rfl | rfl | rfl | rfl | rfl | rfl | rfl <;> rfl
theorem mC_upN {S : mS} {i n x : Nat} (h16 : i ≤ 16) : zst (mC S i) n (.int (nI x)) = mC (S.1, nup2 S.2.1 i n x, S.2.2) i := by
  funext j
  simp only [zst, mC, h16, if_true, nup2, true_and]
  by_cases h : j = n
  · simp [h]
  · simp [h]
theorem mC_upI {S : mS} {i n : Nat} {x : Int32} (h16 : ¬ i ≤ 16) : zst (mC S i) n (.int x) = mC (S.1, S.2.1, iup2 S.2.2 i n x) i := by
  funext j
  simp only [zst, mC, h16, if_false, iup2, true_and]
  by_cases h : j = n
  · simp [h]
  · simp [h]
theorem mC_neN {S : mS} {i n x j : Nat} (h : j ≠ i) : mC (S.1, nup2 S.2.1 i n x, S.2.2) j = mC S j := by
  unfold mC
  split
  · funext q; simp [nup2, h]
  · rfl
theorem mC_neI {S : mS} {i n j : Nat} {x : Int32} (h : j ≠ i) : mC (S.1, S.2.1, iup2 S.2.2 i n x) j = mC S j := by
  unfold mC
  split
  · rfl
  · funext q; simp [iup2, h]
theorem mN_lt (i : Nat) : mN i < 2 ^ 31 := by
  unfold mN
  split
  · omega
  · split
    · omega
    · split
      · omega
      · split <;> omega
section MR
variable {Z : zZ} {cc : ByteArray} {ret : Option FieldType} {hh : List (Nat × Nat × Nat × Nat)} {fr lo : Nat} {own : String}
variable {h0 : zH} {cb sb pc : Nat} {L : List (Option Value)} {st rest : List Value} {o : Nat} {ad : Nat → Nat} {S : mS}
theorem m_get (hC : zC Z cc ret own hh fr lo) (k : Nat) {index : Nat} {nm ds : String} {v : Value} (hk : k < 23) (hT : (TX4 k).1 = RX4 ∧ (TX4 k).2.1 = nm ∧ (TX4 k).2.2.1 = ds) (hq : Cond.fieldLink own index RX4 nm ds ∈ lw_all) (hv : (mF ad S.1)[k]? = some v) (d : decode cc pc = .ok (.getfield index, 3)) (kk : zW Z (mH o ad S h0) cb sb (pc + 3) L (v :: rest)) : zW Z (mH o ad S h0) cb sb pc L (.ref o :: rest) :=
  r_get hC k in_X4 (ci := 5) rfl mH_o hk hT hq hv d kk
theorem m_put (hC : zC Z cc ret own hh fr lo) (hD : mD Z.1 o ad) (k : Nat) {index x : Nat} {nm : String} (hk : k ∈ mSc) (hk2 : k < 23) (hT : (TX4 k).1 = RX4 ∧ (TX4 k).2.1 = nm ∧ (TX4 k).2.2.1 = "I" ∧ (TX4 k).2.2.2 = false) (hq : Cond.fieldLink own index RX4 nm "I" ∈ lw_all) (d : decode cc pc = .ok (.putfield index, 3)) (kk : zW Z (mH o ad (nup S.1 k x, S.2) h0) cb sb (pc + 3) L rest) : zW Z (mH o ad S h0) cb sb pc L (.int (nI x) :: .ref o :: rest) := by
  refine r_put hC k in_X4 tyX4 tyX4_ok nmX4 (ci := 5) rfl hD.1 mH_o hk2 hT hq (by decide +kernel : parseFieldDescriptor "I" = some .int) rfl rfl hk2 (mF_set hk) d ?_
  rw [mH_put]
  exact kk
theorem m_putZ (hC : zC Z cc ret own hh fr lo) (hD : mD Z.1 o ad) (k : Nat) {index x : Nat} {nm : String} (hx : x < 2) (hk : k ∈ mSc) (hk2 : k < 23) (hT : (TX4 k).1 = RX4 ∧ (TX4 k).2.1 = nm ∧ (TX4 k).2.2.1 = "Z" ∧ (TX4 k).2.2.2 = false) (hq : Cond.fieldLink own index RX4 nm "Z" ∈ lw_all) (d : decode cc pc = .ok (.putfield index, 3)) (kk : zW Z (mH o ad (nup S.1 k x, S.2) h0) cb sb (pc + 3) L rest) : zW Z (mH o ad S h0) cb sb pc L (.int (nI x) :: .ref o :: rest) := by
  have hx' : x = 0 ∨ x = 1 := by omega
  refine r_put hC k in_X4 tyX4 tyX4_ok nmX4 (ci := 5) rfl hD.1 mH_o hk2 hT hq (by decide +kernel : parseFieldDescriptor "Z" = some .boolean) (by rcases hx' with rfl | rfl <;> rfl) (by rcases hx' with rfl | rfl <;> rfl) hk2 (mF_set hk) d ?_
  rw [mH_put]
  exact kk
theorem m_iald (hC : zC Z cc ret own hh fr lo) (hD : mD Z.1 o ad) {i n : Nat} (d : decode cc pc = .ok (.iaload, 1)) (hi : i ∈ mArr) (hK : mK i = 0) (h16 : i ≤ 16) (hn : n < mN i) (kk : zW Z (mH o ad S h0) cb sb (pc + 1) L (.int (nI (S.2.1 i n)) :: rest)) : zW Z (mH o ad S h0) cb sb pc L (.int (nI n) :: .ref (ad i) :: rest) := by
  have h31 : mN i < 2 ^ 31 := mN_lt i
  refine r_iald hC d (n9 := mN i) (by rw [← hK]; exact mH_a hD hi) (vp_in_nI hn h31) ?_ kk
  rw [nI_clamp (by omega)]
  simp [mC, h16]
theorem m_ialdI (hC : zC Z cc ret own hh fr lo) (hD : mD Z.1 o ad) {i n : Nat} (d : decode cc pc = .ok (.iaload, 1)) (hi : i ∈ mArr) (hK : mK i = 0) (h16 : ¬ i ≤ 16) (hn : n < mN i) (kk : zW Z (mH o ad S h0) cb sb (pc + 1) L (.int (S.2.2 i n) :: rest)) : zW Z (mH o ad S h0) cb sb pc L (.int (nI n) :: .ref (ad i) :: rest) := by
  have h31 : mN i < 2 ^ 31 := mN_lt i
  refine r_iald hC d (n9 := mN i) (by rw [← hK]; exact mH_a hD hi) (vp_in_nI hn h31) ?_ kk
  rw [nI_clamp (by omega)]
  simp [mC, h16]
theorem m_cald (hC : zC Z cc ret own hh fr lo) (hD : mD Z.1 o ad) {i n : Nat} (d : decode cc pc = .ok (.caload, 1)) (hi : i ∈ mArr) (hK : mK i = 2) (h16 : i ≤ 16) (hn : n < mN i) (kk : zW Z (mH o ad S h0) cb sb (pc + 1) L (.int (nI (S.2.1 i n)) :: rest)) : zW Z (mH o ad S h0) cb sb pc L (.int (nI n) :: .ref (ad i) :: rest) := by
  have h31 : mN i < 2 ^ 31 := mN_lt i
  refine r_cald hC d (n9 := mN i) (by rw [← hK]; exact mH_a hD hi) (vp_in_nI hn h31) ?_ kk
  rw [nI_clamp (by omega)]
  simp [mC, h16]
theorem m_zald (hC : zC Z cc ret own hh fr lo) (hD : mD Z.1 o ad) {i n : Nat} (d : decode cc pc = .ok (.baload, 1)) (hi : i ∈ mArr) (hK : mK i = 3) (h16 : i ≤ 16) (hn : n < mN i) (kk : zW Z (mH o ad S h0) cb sb (pc + 1) L (.int (nI (S.2.1 i n)) :: rest)) : zW Z (mH o ad S h0) cb sb pc L (.int (nI n) :: .ref (ad i) :: rest) := by
  have h31 : mN i < 2 ^ 31 := mN_lt i
  refine r_zald hC d (n9 := mN i) (by rw [← hK]; exact mH_a hD hi) (vp_in_nI hn h31) ?_ kk
  rw [nI_clamp (by omega)]
  simp [mC, h16]
theorem m_ist (hC : zC Z cc ret own hh fr lo) (hD : mD Z.1 o ad) {i n x : Nat} (d : decode cc pc = .ok (.iastore, 1)) (hi : i ∈ mArr) (hK : mK i = 0) (h16 : i ≤ 16) (hn : n < mN i) (kk : zW Z (mH o ad (S.1, nup2 S.2.1 i n x, S.2.2) h0) cb sb (pc + 1) L rest) : zW Z (mH o ad S h0) cb sb pc L (.int (nI x) :: .int (nI n) :: .ref (ad i) :: rest) := by
  have h31 : mN i < 2 ^ 31 := mN_lt i
  refine r_ist hC d (n9 := mN i) (by rw [← hK]; exact mH_a hD hi) (hD.2.1 i hi) (vp_in_nI hn h31) ?_
  rw [nI_clamp (by omega), mC_upN h16, ← hK, mH_sto (S := S) (S' := (S.1, nup2 S.2.1 i n x, S.2.2)) hD hi rfl (fun j hj => mC_neN hj)]
  exact kk
theorem m_istI (hC : zC Z cc ret own hh fr lo) (hD : mD Z.1 o ad) {i n : Nat} {x : Int32} (d : decode cc pc = .ok (.iastore, 1)) (hi : i ∈ mArr) (hK : mK i = 0) (h16 : ¬ i ≤ 16) (hn : n < mN i) (kk : zW Z (mH o ad (S.1, S.2.1, iup2 S.2.2 i n x) h0) cb sb (pc + 1) L rest) : zW Z (mH o ad S h0) cb sb pc L (.int x :: .int (nI n) :: .ref (ad i) :: rest) := by
  have h31 : mN i < 2 ^ 31 := mN_lt i
  refine r_ist hC d (n9 := mN i) (by rw [← hK]; exact mH_a hD hi) (hD.2.1 i hi) (vp_in_nI hn h31) ?_
  rw [nI_clamp (by omega), mC_upI h16, ← hK, mH_sto (S := S) (S' := (S.1, S.2.1, iup2 S.2.2 i n x)) hD hi rfl (fun j hj => mC_neI hj)]
  exact kk
theorem m_cst (hC : zC Z cc ret own hh fr lo) (hD : mD Z.1 o ad) {i n x : Nat} (d : decode cc pc = .ok (.castore, 1)) (hi : i ∈ mArr) (hK : mK i = 2) (h16 : i ≤ 16) (hn : n < mN i) (hx : x < 65536) (kk : zW Z (mH o ad (S.1, nup2 S.2.1 i n x, S.2.2) h0) cb sb (pc + 1) L rest) : zW Z (mH o ad S h0) cb sb pc L (.int (nI x) :: .int (nI n) :: .ref (ad i) :: rest) := by
  have h31 : mN i < 2 ^ 31 := mN_lt i
  refine r_cst hC d (n9 := mN i) (by rw [← hK]; exact mH_a hD hi) (hD.2.1 i hi) (vp_in_nI hn h31) (pk_charN hx).1 ?_
  rw [nI_clamp (by omega), mC_upN h16, ← hK, mH_sto (S := S) (S' := (S.1, nup2 S.2.1 i n x, S.2.2)) hD hi rfl (fun j hj => mC_neN hj)]
  exact kk
theorem m_zst (hC : zC Z cc ret own hh fr lo) (hD : mD Z.1 o ad) {i n x : Nat} (d : decode cc pc = .ok (.bastore, 1)) (hi : i ∈ mArr) (hK : mK i = 3) (h16 : i ≤ 16) (hn : n < mN i) (hx : x < 2) (kk : zW Z (mH o ad (S.1, nup2 S.2.1 i n x, S.2.2) h0) cb sb (pc + 1) L rest) : zW Z (mH o ad S h0) cb sb pc L (.int (nI x) :: .int (nI n) :: .ref (ad i) :: rest) := by
  have h31 : mN i < 2 ^ 31 := mN_lt i
  have hx' : x = 0 ∨ x = 1 := by omega
  refine r_zst hC d (n9 := mN i) (by rw [← hK]; exact mH_a hD hi) (hD.2.1 i hi) (vp_in_nI hn h31) (v := .int (nI x)) (by rcases hx' with rfl | rfl <;> rfl) ?_
  rw [nI_clamp (by omega), mC_upN h16, ← hK, mH_sto (S := S) (S' := (S.1, nup2 S.2.1 i n x, S.2.2)) hD hi rfl (fun j hj => mC_neN hj)]
  exact kk
end MR
