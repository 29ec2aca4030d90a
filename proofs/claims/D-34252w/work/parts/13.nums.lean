/-! NUMBERS: rows whose ints are naturals; loops; small pure words -/
set_option maxRecDepth 100000
/-- a loop that counts up to b -/
theorem zloop {P : Nat → Prop} (b : Nat) (step : ∀ i, (i < b → P (i + 1)) → P i) : ∀ i, P i := by
  have key : ∀ n i, b ≤ i + n → P i := by
    intro n
    induction n with
    | zero => intro i h; exact step i (fun q => absurd q (by omega))
    | succ n ih => intro i h; exact step i (fun _ => ih (i + 1) (by omega))
  exact fun i => key b i (by omega)
def nB (b : Bool) : Int32 := if b then 1 else 0
theorem nB_t : nB true = 1 := rfl
theorem nB_f : nB false = 0 := rfl
theorem nB_1 {b : Bool} (h : b = true) : nB b = 1 := by rw [h]; rfl
theorem nB_0 {b : Bool} (h : b = false) : nB b = 0 := by rw [h]; rfl
theorem nB_eq0 (b : Bool) : nB b = 0 ↔ b = false := by cases b <;> decide
theorem nB_ne0 (b : Bool) : ¬ nB b = 0 ↔ b = true := by cases b <;> decide
theorem nB_nz (b : Bool) : narrow .boolean (.int (nB b)) = .int (nB b) := by cases b <;> rfl
theorem nB_nI (b : Bool) : nB b = nI (if b then 1 else 0) := by cases b <;> rfl
def nO (o : Option Nat) : Int32 := match o with
  | none => -1
  | some k => nI k
/-- the last k below n with P k -/
def zLast (P : Nat → Bool) : Nat → Option Nat
  | 0 => none
  | n + 1 => if P n then some n else zLast P n
def zSum (f : Nat → Nat) : Nat → Nat
  | 0 => 0
  | n + 1 => zSum f n + f n
def zMax (f : Nat → Nat) : Nat → Nat
  | 0 => 0
  | n + 1 => if zMax f n < f n then f n else zMax f n
/-- all k below n -/
def zAll (P : Nat → Bool) : Nat → Bool
  | 0 => true
  | n + 1 => zAll P n && P n
theorem zLast_lt {P : Nat → Bool} {n k : Nat} (h : zLast P n = some k) : k < n ∧ P k = true := by
  induction n with
  | zero => cases h
  | succ n ih =>
    simp only [zLast] at h
    by_cases c : P n = true
    · rw [if_pos c] at h; cases h; exact ⟨Nat.lt_succ_self _, c⟩
    · rw [if_neg c] at h; have := ih h; exact ⟨by omega, this.2⟩
theorem nO_neg1 {o : Option Nat} (h : ∀ k, o = some k → k < 2 ^ 31) : nO o = -1 ↔ o = none := by
  cases o with
  | none => simp [nO]
  | some k =>
    have h9 := h k rfl
    constructor
    · intro e
      have := congrArg Int32.toInt (show nI k = -1 from e)
      rw [nI_toInt h9] at this
      have h8 : (-1 : Int32).toInt = -1 := by decide
      omega
    · intro e; cases e
theorem zSum_le {f g : Nat → Nat} {n : Nat} (h : ∀ k, k < n → f k ≤ g k) : zSum f n ≤ zSum g n := by
  induction n with
  | zero => exact Nat.le_refl _
  | succ n ih => exact Nat.add_le_add (ih (fun k hk => h k (by omega))) (h n (by omega))
theorem zSum_const {c : Nat} (n : Nat) : zSum (fun _ => c) n = n * c := by
  induction n with
  | zero => simp [zSum]
  | succ n ih => rw [zSum, ih, Nat.succ_mul]
theorem zSum_bd {f : Nat → Nat} {c n : Nat} (h : ∀ k, k < n → f k ≤ c) : zSum f n ≤ n * c := by
  have := zSum_le (g := fun _ => c) h
  rwa [zSum_const] at this
theorem zSum_congr {f g : Nat → Nat} {n : Nat} (h : ∀ k, k < n → f k = g k) : zSum f n = zSum g n := by
  induction n with
  | zero => rfl
  | succ n ih => rw [zSum, zSum, ih (fun k hk => h k (by omega)), h n (by omega)]
theorem zLast_congr {P Q : Nat → Bool} {n : Nat} (h : ∀ k, k < n → P k = Q k) : zLast P n = zLast Q n := by
  induction n with
  | zero => rfl
  | succ n ih => rw [zLast, zLast, ih (fun k hk => h k (by omega)), h n (by omega)]
theorem zAll_iff {P : Nat → Bool} {n : Nat} : zAll P n = true ↔ ∀ k, k < n → P k = true := by
  induction n with
  | zero => simp [zAll]
  | succ n ih =>
    rw [zAll, Bool.and_eq_true, ih]
    constructor
    · intro h k hk
      by_cases c : k = n
      · rw [c]; exact h.2
      · exact h.1 k (by omega)
    · intro h; exact ⟨fun k hk => h k (by omega), h n (by omega)⟩
section ZN
variable {Z : zZ} {cc : ByteArray} {ret : Option FieldType} {own : String} {hh : List (Nat × Nat × Nat × Nat)} {fr lo : Nat}
variable {h : zH} {cb sb pc : Nat} {L : List (Option Value)} {st rest : List Value}
theorem r_iaddN (hC : zC Z cc ret own hh fr lo) {x y : Nat} (d : decode cc pc = .ok (.iadd, 1)) (k : zW Z h cb sb (pc + 1) L (.int (nI (x + y)) :: rest)) : zW Z h cb sb pc L (.int (nI y) :: .int (nI x) :: rest) := r_iadd hC d (by rw [nI_add]; exact k)
theorem r_imulN (hC : zC Z cc ret own hh fr lo) {x y : Nat} (d : decode cc pc = .ok (.imul, 1)) (k : zW Z h cb sb (pc + 1) L (.int (nI (x * y)) :: rest)) : zW Z h cb sb pc L (.int (nI y) :: .int (nI x) :: rest) := r_imul hC d (by rw [pk_mul]; exact k)
theorem r_isubN (hC : zC Z cc ret own hh fr lo) {x y : Nat} (d : decode cc pc = .ok (.isub, 1)) (hle : y ≤ x) (k : zW Z h cb sb (pc + 1) L (.int (nI (x - y)) :: rest)) : zW Z h cb sb pc L (.int (nI y) :: .int (nI x) :: rest) := r_isub hC d (by rw [pk_sub hle]; exact k)
theorem r_iremN (hC : zC Z cc ret own hh fr lo) {x y : Nat} (d : decode cc pc = .ok (.irem, 1)) (hx : x < 2 ^ 31) (h0 : 0 < y) (hy : y < 2 ^ 31) (k : zW Z h cb sb (pc + 1) L (.int (nI (x % y)) :: rest)) : zW Z h cb sb pc L (.int (nI y) :: .int (nI x) :: rest) := r_irem hC d (nI_ne0 h0 hy) (by rw [pk_rem hx h0 hy]; exact k)
/-- a value by another name -/
theorem r_v {x x' : Int32} (e : x = x') (k : zW Z h cb sb pc L (.int x' :: rest)) : zW Z h cb sb pc L (.int x :: rest) := by rw [e]; exact k
theorem r_icmp_geN (hC : zC Z cc ret own hh fr lo) {x y : Nat} {off : Int} {tgt : Nat} (d : decode cc pc = .ok (.if_icmp .ge off, 3)) (ht : (pc : Int) + off = (tgt : Int)) (hx : x < 2 ^ 31) (hy : y < 2 ^ 31) (kt : y ≤ x → zW Z h cb sb tgt L rest) (kf : x < y → zW Z h cb sb (pc + 3) L rest) : zW Z h cb sb pc L (.int (nI y) :: .int (nI x) :: rest) := r_icmp_ge hC d ht (fun q => kt ((nI_leI hy hx).mp q)) (fun q => kf (Nat.not_le.mp fun z => q ((nI_leI hy hx).mpr z)))
theorem r_icmp_ltN (hC : zC Z cc ret own hh fr lo) {x y : Nat} {off : Int} {tgt : Nat} (d : decode cc pc = .ok (.if_icmp .lt off, 3)) (ht : (pc : Int) + off = (tgt : Int)) (hx : x < 2 ^ 31) (hy : y < 2 ^ 31) (kt : x < y → zW Z h cb sb tgt L rest) (kf : y ≤ x → zW Z h cb sb (pc + 3) L rest) : zW Z h cb sb pc L (.int (nI y) :: .int (nI x) :: rest) := r_icmp_lt hC d ht (fun q => kt ((nI_ltI hx hy).mp q)) (fun q => kf (Nat.not_lt.mp fun z => q ((nI_ltI hx hy).mpr z)))
theorem r_icmp_gtN (hC : zC Z cc ret own hh fr lo) {x y : Nat} {off : Int} {tgt : Nat} (d : decode cc pc = .ok (.if_icmp .gt off, 3)) (ht : (pc : Int) + off = (tgt : Int)) (hx : x < 2 ^ 31) (hy : y < 2 ^ 31) (kt : y < x → zW Z h cb sb tgt L rest) (kf : x ≤ y → zW Z h cb sb (pc + 3) L rest) : zW Z h cb sb pc L (.int (nI y) :: .int (nI x) :: rest) := r_icmp_gt hC d ht (fun q => kt ((nI_ltI hy hx).mp q)) (fun q => kf (Nat.not_lt.mp fun z => q ((nI_ltI hy hx).mpr z)))
theorem r_icmp_leN (hC : zC Z cc ret own hh fr lo) {x y : Nat} {off : Int} {tgt : Nat} (d : decode cc pc = .ok (.if_icmp .le off, 3)) (ht : (pc : Int) + off = (tgt : Int)) (hx : x < 2 ^ 31) (hy : y < 2 ^ 31) (kt : x ≤ y → zW Z h cb sb tgt L rest) (kf : y < x → zW Z h cb sb (pc + 3) L rest) : zW Z h cb sb pc L (.int (nI y) :: .int (nI x) :: rest) := r_icmp_le hC d ht (fun q => kt ((nI_leI hx hy).mp q)) (fun q => kf (Nat.not_le.mp fun z => q ((nI_leI hx hy).mpr z)))
theorem r_icmp_eqN (hC : zC Z cc ret own hh fr lo) {x y : Nat} {off : Int} {tgt : Nat} (d : decode cc pc = .ok (.if_icmp .eq off, 3)) (ht : (pc : Int) + off = (tgt : Int)) (hx : x < 2 ^ 31) (hy : y < 2 ^ 31) (kt : x = y → zW Z h cb sb tgt L rest) (kf : x ≠ y → zW Z h cb sb (pc + 3) L rest) : zW Z h cb sb pc L (.int (nI y) :: .int (nI x) :: rest) := r_icmp_eq hC d ht (fun q => kt ((nI_eq hx hy).mp q)) (fun q => kf (fun z => q ((nI_eq hx hy).mpr z)))
theorem r_icmp_neN (hC : zC Z cc ret own hh fr lo) {x y : Nat} {off : Int} {tgt : Nat} (d : decode cc pc = .ok (.if_icmp .ne off, 3)) (ht : (pc : Int) + off = (tgt : Int)) (hx : x < 2 ^ 31) (hy : y < 2 ^ 31) (kt : x ≠ y → zW Z h cb sb tgt L rest) (kf : x = y → zW Z h cb sb (pc + 3) L rest) : zW Z h cb sb pc L (.int (nI y) :: .int (nI x) :: rest) := r_icmp_ne hC d ht (fun q => kt (fun z => q ((nI_eq hx hy).mpr z))) (fun q => kf ((nI_eq hx hy).mp q))
theorem r_if_eqB (hC : zC Z cc ret own hh fr lo) {b : Bool} {off : Int} {tgt : Nat} (d : decode cc pc = .ok (.ifCond .eq off, 3)) (ht : (pc : Int) + off = (tgt : Int)) (kt : b = false → zW Z h cb sb tgt L rest) (kf : b = true → zW Z h cb sb (pc + 3) L rest) : zW Z h cb sb pc L (.int (nB b) :: rest) := r_if_eq hC d ht (fun q => kt ((nB_eq0 b).mp q)) (fun q => kf ((nB_ne0 b).mp q))
theorem r_if_neB (hC : zC Z cc ret own hh fr lo) {b : Bool} {off : Int} {tgt : Nat} (d : decode cc pc = .ok (.ifCond .ne off, 3)) (ht : (pc : Int) + off = (tgt : Int)) (kt : b = true → zW Z h cb sb tgt L rest) (kf : b = false → zW Z h cb sb (pc + 3) L rest) : zW Z h cb sb pc L (.int (nB b) :: rest) := r_if_ne hC d ht (fun q => kt ((nB_ne0 b).mp q)) (fun q => kf ((nB_eq0 b).mp q))
theorem r_if_eqN (hC : zC Z cc ret own hh fr lo) {x : Nat} {off : Int} {tgt : Nat} (d : decode cc pc = .ok (.ifCond .eq off, 3)) (ht : (pc : Int) + off = (tgt : Int)) (hx : x < 2 ^ 31) (kt : x = 0 → zW Z h cb sb tgt L rest) (kf : x ≠ 0 → zW Z h cb sb (pc + 3) L rest) : zW Z h cb sb pc L (.int (nI x) :: rest) := r_if_eq hC d ht (fun q => kt ((nI_eq hx (by decide)).mp (q.trans nI_0.symm))) (fun q => kf (fun z => q (by rw [z]; exact nI_0)))
theorem r_if_neN (hC : zC Z cc ret own hh fr lo) {x : Nat} {off : Int} {tgt : Nat} (d : decode cc pc = .ok (.ifCond .ne off, 3)) (ht : (pc : Int) + off = (tgt : Int)) (hx : x < 2 ^ 31) (kt : x ≠ 0 → zW Z h cb sb tgt L rest) (kf : x = 0 → zW Z h cb sb (pc + 3) L rest) : zW Z h cb sb pc L (.int (nI x) :: rest) := r_if_ne hC d ht (fun q => kt (fun z => q (by rw [z]; exact nI_0))) (fun q => kf ((nI_eq hx (by decide)).mp (q.trans nI_0.symm)))
end ZN
/-- x is one of 0 .. n-1 -/
def zIn (x : Int32) (n : Nat) : Bool := decide (0 ≤ x ∧ x < nI n)
theorem zIn_of {x : Int32} {n : Nat} (hn : n < 2 ^ 31) (h : zIn x n = true) : ∃ k, k < n ∧ x = nI k := by
  have h9 := of_decide_eq_true h
  have h1 : (0 : Int) ≤ x.toInt := by simpa using Int32.le_iff_toInt_le.mp h9.1
  have h2 : x.toInt < (n : Int) := by
    have := Int32.lt_iff_toInt_lt.mp h9.2
    rwa [nI_toInt hn] at this
  refine ⟨x.toInt.toNat, by omega, ?_⟩
  rw [← Int32.toInt_inj, nI_toInt (by omega)]
  omega
theorem zIn_nI {k n : Nat} (hn : n < 2 ^ 31) (h : k < n) : zIn (nI k) n = true := decide_eq_true ⟨nI_pos' (by omega), nI_lt h hn⟩
theorem zIn_le {x : Int32} {n : Nat} (hn : n < 2 ^ 31) : (0 ≤ x ∧ x ≤ nI n - 1) ↔ zIn x n = true := by
  have e1 : (nI n - 1).toInt = (n : Int) - 1 := by
    cases n with
    | zero => decide
    | succ n => rw [nI_pred, nI_toInt (by omega)]; omega
  unfold zIn
  rw [decide_eq_true_iff]
  refine and_congr Iff.rfl ?_
  rw [Int32.le_iff_toInt_le, Int32.lt_iff_toInt_lt, e1, nI_toInt hn]
  omega
section ZDIA
variable {Z : zZ} {cc : ByteArray} {ret : Option FieldType} {own : String} {hh : List (Nat × Nat × Nat × Nat)} {fr lo : Nat}
variable {h : zH} {cb sb pc : Nat} {L : List (Option Value)} {st rest : List Value}
theorem zdia0 {b : Bool} (hb : b = false) (k : zW Z h cb sb pc L (.int (nB b) :: rest)) : zW Z h cb sb pc L (.int (nI 0) :: rest) := by subst hb; exact k
theorem zdia1 {b : Bool} (hb : b = true) (k : zW Z h cb sb pc L (.int (nB b) :: rest)) : zW Z h cb sb pc L (.int (nI 1) :: rest) := by subst hb; exact k
theorem zdiaV {x y : Int32} (e : x = y) (k : zW Z h cb sb pc L (.int y :: rest)) : zW Z h cb sb pc L (.int x :: rest) := by rw [e]; exact k
theorem zdiaL {L' : List (Option Value)} (e : L = L') (k : zW Z h cb sb pc L' st) : zW Z h cb sb pc L st := by rw [e]; exact k
theorem zdiaW {h' : zH} {L' : List (Option Value)} {st' : List Value} (e1 : h = h') (e2 : L = L') (e3 : st = st') (k : zW Z h' cb sb pc L' st') : zW Z h cb sb pc L st := by rw [e1, e2, e3]; exact k
/-- 'c ? 0 : 1' as javac prints it -/
theorem zbool (hC : zC Z cc ret own hh fr lo) {p1 p2 p3 p4 : Nat} {off : Int} {b : Bool} (d1 : decode cc p1 = .ok (.iconst 1, 1)) (d2 : decode cc p2 = .ok (.goto off, 3)) (d3 : decode cc p3 = .ok (.iconst 0, 1)) (e1 : p1 + 1 = p2) (e2 : p3 + 1 = p4) (ht : (p2 : Int) + off = (p4 : Int)) (k : zW Z h cb sb p4 L (.int (nB b) :: rest)) :
    (b = true → zW Z h cb sb p1 L rest) ∧ (b = false → zW Z h cb sb p3 L rest) := by
  subst e1; subst e2
  exact ⟨fun hb => r_iconst hC d1 (v := nI 1) (by decide) (r_goto hC d2 ht (zdia1 hb k)), fun hb => r_iconst hC d3 (v := nI 0) (by decide) (zdia0 hb k)⟩
end ZDIA
theorem zAll_mono {P : Nat → Bool} {k m : Nat} (h : zAll P k = false) (hk : k ≤ m) : zAll P m = false := by
  cases hx : zAll P m with
  | false => rfl
  | true =>
    have h1 : zAll P k = true := zAll_iff.mpr (fun j hj => zAll_iff.mp hx j (by omega))
    rw [h1] at h; cases h
theorem zIn_in {x : Int32} {n : Nat} (hn : n < 2 ^ 31) : decide (nI 0 ≤ x ∧ x ≤ nI n - nI 1) = zIn x n := by
  rw [Bool.eq_iff_iff, decide_eq_true_iff]
  exact zIn_le hn
theorem zIn_c {x : Int32} {n : Nat} (hn : n + 1 < 2 ^ 31) : decide (nI 0 ≤ x ∧ x ≤ nI n) = zIn x (n + 1) := by
  have h := zIn_in (x := x) (n := n + 1) hn
  rw [pk_sub (by omega : 1 ≤ n + 1)] at h
  exact h
theorem toNat_nI {k : Nat} (h : k < 2 ^ 31) : (nI k).toNatClampNeg = k := nI_clamp h
theorem nI_as (a b c : Nat) : nI a + (nI b - nI c) = nI (a + b) - nI c := by rw [← nI_add]; grind
theorem nI_sa (a b c : Nat) : nI a - nI b + nI c = nI (a + c) - nI b := by rw [← nI_add]; grind
/-- a - c against d -/
theorem nI_subgt {a c d : Nat} (ha : a < 2 ^ 30) (hc : c < 2 ^ 30) (hd : d < 2 ^ 30) : nI d < nI a - nI c ↔ d + c < a := by
  rw [Int32.lt_iff_toInt_lt, pk_sub_toInt ha hc, nI_toInt (by omega)]
  omega
theorem n_pos {x : Int32} (h : ¬ x < 0) : x = nI x.toNatClampNeg ∧ x.toNatClampNeg < 2 ^ 31 := by
  obtain ⟨j, hj, rfl⟩ := nI_of h
  rw [nI_clamp hj]
  exact ⟨rfl, hj⟩
/-- a mask of bits -/
def zMask (P : Nat → Bool) (n : Nat) : Nat := zSum (fun k => if P k then 2 ^ k else 0) n
theorem zMask_lt (P : Nat → Bool) (n : Nat) : zMask P n < 2 ^ n := by
  induction n with
  | zero => simp [zMask, zSum]
  | succ n ih =>
    have h : zMask P (n + 1) = zMask P n + (if P n then 2 ^ n else 0) := rfl
    rw [h, Nat.pow_succ]
    split <;> omega
theorem zMask_bit (P : Nat → Bool) {n k : Nat} (hk : k < n) : zMask P n / 2 ^ k % 2 = if P k then 1 else 0 := by
  induction n with
  | zero => omega
  | succ n ih =>
    have h : zMask P (n + 1) = zMask P n + (if P n then 2 ^ n else 0) := rfl
    have hl := zMask_lt P n
    by_cases c : k = n
    · subst c
      rw [h]
      split
      · rw [Nat.add_div_right _ (Nat.two_pow_pos k), Nat.div_eq_of_lt hl]
      · rw [Nat.add_zero, Nat.div_eq_of_lt hl]
    · have hk' : k < n := by omega
      rw [h]
      split
      · have e : 2 ^ n = 2 ^ k * (2 * 2 ^ (n - k - 1)) := by
          rw [← Nat.mul_assoc, ← Nat.pow_succ, ← Nat.pow_add]
          congr 1
          omega
        rw [e, Nat.add_mul_div_left _ _ (Nat.two_pow_pos k), Nat.add_mul_mod_self_left]
        exact ih hk'
      · rw [Nat.add_zero]
        exact ih hk'
theorem nI_or {a k : Nat} (ha : a < 2 ^ k) : nI a ||| nI (2 ^ k) = nI (a + 2 ^ k) := by
  have e : a ||| 2 ^ k = a + 2 ^ k := by
    have := Nat.two_pow_add_eq_or_of_lt ha 1
    rw [Nat.mul_one] at this
    rw [Nat.add_comm, this, Nat.or_comm]
  rw [← e]
  unfold nI
  rw [← Int32.toBitVec_inj]
  simp only [Int32.toBitVec_or, Int32.toBitVec_ofNat']
  exact (BitVec.ofNat_or).symm
theorem nI_shl1 {k : Nat} (hk : k < 31) : nI 1 <<< (nI k &&& 31) = nI (2 ^ k) := by
  have h := pk_shlN (n := 1) (nI k &&& 31) k
  have e : nI k &&& 31 = nI k := by
    have := pk_andN (n := k) (by omega) (m := 31) 5 (by decide)
    rw [this, Nat.mod_eq_of_lt (by omega)]
  rw [Nat.one_mul] at h
  refine h ?_ ?_
  · rw [e]
    revert hk
    have : ∀ k : Fin 31, ((nI k.val).toBitVec.smod 32).toNat = k.val := by decide +kernel
    intro hk
    exact this ⟨k, hk⟩
  · exact Nat.pow_lt_pow_right (by decide) (by omega)
theorem nI_shr1 {a k : Nat} (ha : a < 2 ^ 31) (hk : k < 31) : nI a >>> (nI k &&& 31) = nI (a / 2 ^ k) := by
  have e : nI k &&& 31 = nI k := by
    have := pk_andN (n := k) (by omega) (m := 31) 5 (by decide)
    rw [this, Nat.mod_eq_of_lt (by omega)]
  refine pk_shrN ha _ k ?_
  rw [e]
  have : ∀ k : Fin 31, ((nI k.val).toBitVec.smod 32).toNat = k.val := by decide +kernel
  exact this ⟨k, hk⟩
theorem nI_and1 {a : Nat} (ha : a < 2 ^ 31) : nI a &&& nI 1 = nI (a % 2) := pk_andN (by omega) (m := nI 1) 1 (by decide)
def oel {α : Type} (o : Option Nat) (n : α) (s : Nat → α) : α := match o with
  | none => n
  | some k => s k
