/-! CORE 1: an abstract heap; goals over it; rows that do not touch the heap -/
set_option maxRecDepth 100000
/-- what a known cell holds: an array (kind, length, contents) or an object (its place in zcl, its fields) -/
abbrev zE : Type := (Nat × Nat × (Nat → Value)) ⊕ (Nat × List Value)
abbrev zH : Type := Nat → Option zE
def zup (h : zH) (a : Nat) (e : zE) : zH := fun b => if b = a then some e else h b
theorem zup_s {h : zH} {a : Nat} {e : zE} : zup h a e a = some e := by simp [zup]
theorem zup_n {h : zH} {a b : Nat} {e : zE} (hn : b ≠ a) : zup h a e b = h b := by simp [zup, hn]
def zTy : Nat → FieldType := fun k => match k with
  | 0 => .int
  | 1 => .long
  | 2 => .char
  | 3 => .boolean
  | 4 => .byte
  | 5 => .object "java/lang/Object"
  | _ => .object "AllotmentLedger$Account"
def zcl : List vw_C := [(RX1, TX1, 8), (RX2, TX2, 7), (RX3, TX3, 9), (RX5, TX5, 6), (RX6, TX6, 3), (RX4, TX4, 23), (RJ1, TJ1, 4), (RJ2, TJ2, 2), (RJ6, TJ6, 3), ("jdk/internal/misc/Unsafe", fun _ => ("", "", "", false), 0)]
/-- a launch's constants: classes and slots, array classes by kind, the heap at the law's start, the address of the text constant, of its bytes, of the empty list array, the mirror of Object[], the Unsafe object -/
abbrev zG : Type := va_G × (Nat → ClassId) × Heap × (Nat × Nat × Nat × Nat × Nat)
abbrev zB (g : zG) : Nat := g.2.2.1.size
abbrev zA (g : zG) : Nat → Prop := fun q => zB g ≤ q
def ztys (g : zG) : List (ClassId × FieldType) := (List.range 7).map (fun k => (g.2.1 k, zTy k))
def zat (g : zG) (a : Nat) (e : zE) (H : Heap) : Prop :=
  ∃ cell : Cell, H[a]? = some cell ∧ cell.vm ≠ .unknown ∧ cell.vm.isStatics = false ∧ (zB g ≤ a → cell.vm = .none) ∧
    match e with
    | .inl x => x.1 < 7 ∧ cell.cls = g.2.1 x.1 ∧ cell.slots.size = x.2.1 ∧ ∀ j, j < x.2.1 → cell.slots[j]? = some (x.2.2 j)
    | .inr o => ∃ r : vw_C, zcl[o.1]? = some r ∧ cell.cls = g.1.1 o.1 ∧ ∀ k, k < r.2.2 → cell.slots[g.1.2 o.1 k]? = some (vp_V o.2 k)
theorem zat.kept {g : zG} {a : Nat} {e : zE} {H H1 : Heap} (h : zat g a e H) (hq : H1[a]? = H[a]?) : zat g a e H1 := by
  obtain ⟨cell, h1, h2⟩ := h
  exact ⟨cell, hq.trans h1, h2⟩
theorem zat.lt {g : zG} {a : Nat} {e : zE} {H : Heap} (h : zat g a e H) : a < H.size := by
  obtain ⟨cell, h1, -⟩ := h
  exact (Array.getElem?_eq_some_iff.mp h1).1
/-- what the abstract heap says holds of the machine's -/
def zRp (g : zG) (h : zH) (H : Heap) : Prop := ∀ (a : Nat) (e : zE), h a = some e → zat g a e H
def zOld (g : zG) (H : Heap) : Prop := zB g ≤ H.size ∧ ∀ q, q < zB g → H[q]? = g.2.2.1[q]?
/-- less is known -/
def zLe (h1 h2 : zH) : Prop := ∀ (a : Nat) (e : zE), h1 a = some e → h2 a = some e
theorem zLe.rf {h : zH} : zLe h h := fun _ _ x => x
theorem zLe.tr {h1 h2 h3 : zH} (a : zLe h1 h2) (b : zLe h2 h3) : zLe h1 h3 := fun x e q => b x e (a x e q)
theorem zRp.le {g : zG} {h1 h2 : zH} {H : Heap} (hl : zLe h1 h2) (h : zRp g h2 H) : zRp g h1 H := fun a e q => h a e (hl a e q)
theorem zRp.fresh {g : zG} {h : zH} {H : Heap} (hr : zRp g h H) {a : Nat} (ha : H.size ≤ a) : h a = none := by
  cases hx : h a with
  | none => rfl
  | some e => have := (hr a e hx).lt; omega
/-- nest words that the methods use -/
def zNf : List (String × Nat × String × String × String × String) := [
  ("AllotmentLedger", 239, "AllotmentLedger$Account", "soft", "I", "AllotmentLedger"), ("AllotmentLedger", 242, "AllotmentLedger$Account", "hard", "I", "AllotmentLedger"),
  ("AllotmentLedger", 245, "AllotmentLedger$Account", "fileLimit", "I", "AllotmentLedger"), ("AllotmentLedger", 120, "AllotmentLedger$Account", "blocks", "I", "AllotmentLedger"),
  ("AllotmentLedger", 126, "AllotmentLedger$Account", "files", "I", "AllotmentLedger"), ("AllotmentLedger", 129, "AllotmentLedger$Account", "counted", "I", "AllotmentLedger"),
  ("AllotmentLedger", 248, "AllotmentLedger$Account", "since", "I", "AllotmentLedger"), ("AllotmentLedger", 179, "AllotmentLedger$Project", "number", "I", "AllotmentLedger"),
  ("AllotmentLedger", 85, "AllotmentLedger$Project", "path", "Ljava/lang/String;", "AllotmentLedger"), ("AllotmentLedger", 132, "AllotmentLedger$Entry", "number", "I", "AllotmentLedger"),
  ("AllotmentLedger", 109, "AllotmentLedger$Entry", "owner", "I", "AllotmentLedger"), ("AllotmentLedger", 112, "AllotmentLedger$Entry", "project", "LAllotmentLedger$Project;", "AllotmentLedger"),
  ("AllotmentLedger", 147, "AllotmentLedger$Entry", "blocks", "I", "AllotmentLedger"), ("AllotmentLedger", 148, "AllotmentLedger$Entry", "held", "I", "AllotmentLedger"),
  ("AllotmentLedger", 81, "AllotmentLedger$Entry", "isDeleted", "Z", "AllotmentLedger"), ("AllotmentLedger", 227, "AllotmentLedger$Reservation", "entry", "LAllotmentLedger$Entry;", "AllotmentLedger"),
  ("AllotmentLedger", 233, "AllotmentLedger$Reservation", "blocks", "I", "AllotmentLedger"), ("AllotmentLedger", 224, "AllotmentLedger$Reservation", "isClosed", "Z", "AllotmentLedger")]
def zNm : List (String × Nat × MethodName × String) := [
  ("AllotmentLedger", 51, ⟨"AllotmentLedger$Account", "<init>", "()V"⟩, "AllotmentLedger"), ("AllotmentLedger$Project", 1, ⟨"AllotmentLedger$Account", "<init>", "()V"⟩, "AllotmentLedger")]
/-- pairs that can be cast -/
def zCa : List (String × String) := [
  ("AllotmentLedger$Project", "AllotmentLedger$Account"), ("AllotmentLedger$Account", "java/lang/Object"), ("AllotmentLedger$Project", "java/lang/Object"), ("AllotmentLedger$Entry", "java/lang/Object"),
  ("AllotmentLedger$Reservation", "java/lang/Object"), ("java/lang/StringBuilder", "java/lang/AbstractStringBuilder"), ("java/lang/IllegalArgumentException", "java/lang/IllegalArgumentException"),
  ("java/lang/IllegalStateException", "java/lang/IllegalStateException"), ("java/lang/IndexOutOfBoundsException", "java/lang/IndexOutOfBoundsException"), ("java/lang/String", "java/lang/CharSequence"),
  ("java/lang/StringBuilder", "java/lang/CharSequence"), ("java/lang/String", "java/lang/Object"), ("java/lang/StringBuilder", "java/lang/Object")]
/-- pairs that cannot -/
def zNo : List (String × String) := [
  ("java/lang/StringBuilder", "java/lang/StringBuffer"), ("java/lang/String", "java/lang/AbstractStringBuilder"),
  ("java/lang/IllegalArgumentException", "java/lang/IndexOutOfBoundsException"), ("java/lang/IllegalStateException", "java/lang/IndexOutOfBoundsException"), ("java/lang/IllegalStateException", "java/lang/IllegalArgumentException")]
/-- methods that are declared -/
def zDe : List MethodName := [⟨"AllotmentLedger$Account", "look", "(I)V"⟩, ⟨"java/lang/RuntimeException", "<init>", "()V"⟩, ⟨"java/lang/Exception", "<init>", "()V"⟩, ⟨"java/lang/Throwable", "<init>", "()V"⟩]
/-- the builder's private methods -/
def zPr : List MethodName := [⟨"java/lang/AbstractStringBuilder", "ensureCapacityInternal", "(I)V"⟩, ⟨"java/lang/AbstractStringBuilder", "shift", "(II)V"⟩, ⟨"java/lang/AbstractStringBuilder", "putStringAt", "(ILjava/lang/String;)V"⟩, ⟨"java/lang/AbstractStringBuilder", "inflateIfNeededFor", "(Ljava/lang/String;)V"⟩]
/-- what holds of a machine state's tables and of the old statics, all through a run -/
def zAmb (g : zG) (U : State) : Prop :=
  va_K g.1 zcl (ztys g) U ∧
  (∀ q ∈ zNf, va_Nw (.fieldLinkNest q.1 q.2.1 q.2.2.1 q.2.2.2.1 q.2.2.2.2.1 q.2.2.2.2.2) U) ∧ (∀ q ∈ zNm, va_Nw (.methodLinkNest q.1 q.2.1 q.2.2.1 q.2.2.2) U) ∧
  (∀ q ∈ zDe, va_Nw (.declares q) U) ∧ (∀ q ∈ zCa, va_Nw (.castable q.1 q.2) U) ∧ (∀ q ∈ zNo, va_Nc q.1 q.2 U) ∧
  va_AO "java/lang/Object" U ∧ va_AO "AllotmentLedger$Account" U ∧ va_Mi "[Ljava/lang/Object;" g.2.2.2.2.2.2.1 U ∧ va_Dc U ∧
  va_Z "java/lang/String" "COMPACT_STRINGS" "Z" (.int 1) (zA g) U g.2.2.1 ∧
  va_Z "java/util/ArrayList" "DEFAULTCAPACITY_EMPTY_ELEMENTDATA" "[Ljava/lang/Object;" (.ref g.2.2.2.2.2.1) (zA g) U g.2.2.1 ∧
  vx_Zq Bundle.tN "UNASSIGNED_STACK" Bundle.steD (zA g) U g.2.2.1 ∧ vx_Zq Bundle.tN "SUPPRESSED_SENTINEL" Bundle.listD (zA g) U g.2.2.1 ∧
  vk_R "AllotmentLedger" 54 "" g.2.2.2.1 U ∧ vk_R "java/lang/StringLatin1" 151 "" g.2.2.2.1 U ∧
  va_Zq "jdk/internal/util/Preconditions" "SIOOBE_FORMATTER" "Ljava/util/function/BiFunction;" (zA g) U g.2.2.1 ∧
  va_Z "jdk/internal/misc/Unsafe" "ARRAY_BYTE_BASE_OFFSET" "I" (.int 16) (zA g) U g.2.2.1 ∧ va_Z "jdk/internal/util/ArraysSupport" "LOG2_ARRAY_BYTE_INDEX_SCALE" "I" (.int 0) (zA g) U g.2.2.1 ∧
  va_Z "jdk/internal/util/ArraysSupport" "LOG2_ARRAY_LONG_INDEX_SCALE" "I" (.int 3) (zA g) U g.2.2.1 ∧ va_Z "jdk/internal/util/ArraysSupport" "LOG2_ARRAY_INT_INDEX_SCALE" "I" (.int 2) (zA g) U g.2.2.1 ∧
  va_Z "jdk/internal/util/ArraysSupport" "LOG2_BYTE_BIT_SIZE" "I" (.int 3) (zA g) U g.2.2.1 ∧ va_Z "jdk/internal/util/ArraysSupport" "BIG_ENDIAN" "Z" (.int 0) (zA g) U g.2.2.1 ∧
  va_Z "jdk/internal/util/ArraysSupport" "U" "Ljdk/internal/misc/Unsafe;" (.ref g.2.2.2.2.2.2.2) (zA g) U g.2.2.1 ∧
  ∀ q ∈ zPr, va_Nw (.selects "java/lang/StringBuilder" q q) U
theorem zAmb.warm {g : zG} {s U : State} (hW : s.WarmedH U.vm) (h : zAmb g s) : zAmb g U := by
  obtain ⟨h1, h2, h3, h4, h5, h6, h7, h8, h9, h10, h11, h12, h13, h14, h15, h16, h17, h18, h19, h20, h21, h22, h23, h24, h25⟩ := h
  exact ⟨h1.moved hW.alike, fun q hq => va_Nw.warmF hW (h2 q hq), fun q hq => va_Nw.warmM hW (h3 q hq), fun q hq => va_Nw.warmD hW (h4 q hq), fun q hq => va_Nw.warmC hW (h5 q hq), fun q hq => va_Nc.moved hW.alike (h6 q hq),
    va_AO.moved hW.alike h7, va_AO.moved hW.alike h8, va_Mi.moved hW.alike h9, va_Dc.moved hW.alike h10, va_Z.moved hW.alike h11, va_Z.moved hW.alike h12, vx_Zq.moved hW.alike h13, vx_Zq.moved hW.alike h14, vk_R.warm hW h15, vk_R.warm hW h16, va_Zq.moved hW.alike h17, va_Z.moved hW.alike h18, va_Z.moved hW.alike h19, va_Z.moved hW.alike h20, va_Z.moved hW.alike h21, va_Z.moved hW.alike h22, va_Z.moved hW.alike h23, va_Z.moved hW.alike h24, fun q hq => word_at hW (Or.inl rfl) (h25 q hq)⟩
theorem zAmb.same {g : zG} {s U : State} (hv : s.vm = U.vm) (h : zAmb g s) : zAmb g U := h.warm (by rw [← hv]; exact State.WarmedH.refl s)
def zWd (g : zG) (h : zH) (U : State) : Prop := zAmb g U ∧ zRp g h U.heap ∧ zOld g U.heap
/-- a walk's constants: machine, launch, room, start, method, frame, code; locals, budgets, end -/
abbrev zX : Type := Program × Launch × Env × Room × State × MethodId × Array Value × List Frame × Method × Code
abbrev zZ : Type := zG × zX × Nat × Nat × Nat × (State → Prop)
abbrev zp (Z : zZ) : Program := Z.2.1.1
abbrev zl (Z : zZ) : Launch := Z.2.1.2.1
abbrev ze (Z : zZ) : Env := Z.2.1.2.2.1
abbrev zR (Z : zZ) : Room := Z.2.1.2.2.2.1
abbrev zs (Z : zZ) : State := Z.2.1.2.2.2.2.1
abbrev zm (Z : zZ) : MethodId := Z.2.1.2.2.2.2.2.1
abbrev za (Z : zZ) : Array Value := Z.2.1.2.2.2.2.2.2.1
abbrev zb (Z : zZ) : List Frame := Z.2.1.2.2.2.2.2.2.2.1
abbrev zt (Z : zZ) : Method := Z.2.1.2.2.2.2.2.2.2.2.1
abbrev zc (Z : zZ) : Code := Z.2.1.2.2.2.2.2.2.2.2.2
abbrev zw (Z : zZ) (H : Heap) (locs : List Loc) (cells slots : Nat) (g : JFrame) : Prop := W (zp Z) (zl Z) (ze Z) (zR Z) (zs Z) (zm Z) (za Z) (zb Z) (zt Z) (zc Z) H locs cells slots Z.2.2.2.2.2 g
/-- the locals: those of which something is said -/
def zLs (ls : Array Slot) (nL : Nat) (L : List (Option Value)) : Prop := ls.size = nL ∧ lv_wf ls ∧ L.length = nL ∧ ∀ (i : Nat) (v : Value), L[i]? = some (some v) → ls[i]? = some (.val v) ∧ v.category = 1
/-- the machine's heap and what was written so far, under the abstract heap -/
def zOk (Z : zZ) (h : zH) (H : Heap) (locs : List Loc) : Prop := zRp Z.1 h H ∧ zOld Z.1 H ∧ (zs Z).heap.size ≤ H.size ∧ ∀ z ∈ locs, zA Z.1 z.base
/-- THE GOAL: with cb cells and sb slots of budget left -/
def zW (Z : zZ) (h : zH) (cb sb pc : Nat) (L : List (Option Value)) (st : List Value) : Prop :=
  ∀ (H : Heap) (locs : List Loc) (cells slots : Nat) (ls : Array Slot), zOk Z h H locs → cells + cb ≤ Z.2.2.2.1 → slots + sb ≤ Z.2.2.2.2.1 → zLs ls Z.2.2.1 L → zw Z H locs cells slots (F0 (zm Z) pc ls st)
/-- what stands fast: code, answer, class, words, room, tables -/
def zC (Z : zZ) (cc : ByteArray) (ret : Option FieldType) (own : String) (hh : List (Nat × Nat × Nat × Nat)) (fr lo : Nat) : Prop :=
  (zp Z).tables.exec = Jvm.exec ∧ (zc Z).code = cc ∧ (zt Z).sig.returnType = ret ∧ (zc Z).maxLocals = Z.2.2.1 ∧ (zs Z).vm.findClass own = some (zm Z).cls ∧ (∀ w ∈ lw_all, w.before (za Z) (zs Z) = true) ∧
  (zt Z).locks = false ∧ (zl Z).stackTraces = false ∧ zAmb Z.1 (zs Z) ∧ zOld Z.1 (zs Z).heap ∧ (zc Z).exceptionTable.toList = tableOf hh ∧ (zR Z).frames = fr ∧ (zR Z).locals = lo ∧ (zR Z).cells = Z.2.2.2.1 ∧ (zR Z).slots = Z.2.2.2.2.1
/-- fewer known, less budget asked -/
theorem zW.weak {Z : zZ} {h h' : zH} {cb sb cb' sb' pc : Nat} {L L' : List (Option Value)} {st : List Value} (hl : zLe h' h) (h1 : cb' ≤ cb) (h2 : sb' ≤ sb) (hn : L'.length = L.length) (hL : ∀ (i : Nat) (v : Value), L'[i]? = some (some v) → L[i]? = some (some v)) (k : zW Z h' cb' sb' pc L' st) : zW Z h cb sb pc L st :=
  fun H locs cells slots ls ok a b c => k H locs cells slots ls ⟨ok.1.le hl, ok.2⟩ (by omega) (by omega) ⟨c.1, c.2.1, hn.trans c.2.2.1, fun i v q => c.2.2.2 i v (hL i v q)⟩
theorem zW.to {Z : zZ} {h h' : zH} {cb sb cb' sb' pc : Nat} {L : List (Option Value)} {st : List Value} (hl : zLe h' h) (h1 : cb' ≤ cb) (h2 : sb' ≤ sb) (k : zW Z h' cb' sb' pc L st) : zW Z h cb sb pc L st := zW.weak hl h1 h2 rfl (fun _ _ q => q) k
theorem zLs.store {ls : Array Slot} {nL : Nat} {L : List (Option Value)} {i : Nat} {v : Value} (h : zLs ls nL L) (hi : i < L.length) (hc : v.category = 1) : ∃ ls', storeLocals ls i v = some ls' ∧ zLs ls' nL (L.set i (some v)) := by
  have key : ∀ l : List (Nat × Value), (∀ q ∈ l, L[q.1]? = some (some q.2)) → lv_has ls nL l := fun l hl => ⟨h.1, h.2.1, fun q hq => (h.2.2.2 q.1 q.2 (hl q hq)).1⟩
  have hi' : i < nL := by rw [← h.2.2.1]; exact hi
  obtain ⟨ls', e, h0⟩ := lv_store1 (v := v) (key [] (fun q hq => nomatch hq)) hi' hc
  refine ⟨ls', e, h0.1, h0.2.1, by rw [List.length_set]; exact h.2.2.1, fun j w hj => ?_⟩
  by_cases hji : j = i
  · subst hji
    have hlen : j < L.length := by
      have := (List.getElem?_eq_some_iff.mp hj).1
      simpa using this
    rw [List.getElem?_set_self hlen] at hj
    cases hj
    exact ⟨h0.2.2 (j, v) List.mem_cons_self, hc⟩
  · rw [List.getElem?_set_ne (fun q => hji q.symm)] at hj
    obtain ⟨-, hw⟩ := h.2.2.2 j w hj
    obtain ⟨ls2, e2, h2⟩ := lv_store1 (v := v) (key [(j, w)] (fun q hq => by cases List.mem_singleton.mp hq; exact hj)) hi' hc
    cases e.symm.trans e2
    refine ⟨h2.2.2 (j, w) (List.mem_cons_of_mem _ (List.mem_filter.mpr ⟨List.mem_singleton.mpr rfl, ?_⟩)), hw⟩
    simp [hji, hw]
section ZROWS
variable {Z : zZ} {cc : ByteArray} {ret : Option FieldType} {own : String} {hh : List (Nat × Nat × Nat × Nat)} {fr lo : Nat}
variable {h : zH} {cb sb pc : Nat} {L : List (Option Value)} {st rest : List Value}
/-- a row of the kit that leaves heap and locals alone -/
theorem zlift {pc' : Nat} {st' : List Value} (row : ∀ (H : Heap) (locs : List Loc) (cells slots : Nat) (ls : Array Slot), zw Z H locs cells slots (F0 (zm Z) pc' ls st') → zw Z H locs cells slots (F0 (zm Z) pc ls st)) (k : zW Z h cb sb pc' L st') : zW Z h cb sb pc L st :=
  fun H locs cells slots ls ok a b c => row H locs cells slots ls (k H locs cells slots ls ok a b c)
theorem r_iconst (hC : zC Z cc ret own hh fr lo) {n : Int} {v : Int32} (d : decode cc pc = .ok (.iconst n, 1)) (hv : Int32.ofInt n = v) (k : zW Z h cb sb (pc + 1) L (.int v :: st)) : zW Z h cb sb pc L st := zlift (fun _ _ _ _ _ w => lv_iconst hC.1 hC.2.1 d hv w) k
theorem r_bipush (hC : zC Z cc ret own hh fr lo) {n : Int} {v : Int32} (d : decode cc pc = .ok (.bipush n, 2)) (hv : (Int8.ofInt n).toInt32 = v) (k : zW Z h cb sb (pc + 2) L (.int v :: st)) : zW Z h cb sb pc L st := zlift (fun _ _ _ _ _ w => lv_bipush hC.1 hC.2.1 d hv w) k
theorem r_sipush (hC : zC Z cc ret own hh fr lo) {n : Int} {v : Int32} (d : decode cc pc = .ok (.sipush n, 3)) (hv : (Int16.ofInt n).toInt32 = v) (k : zW Z h cb sb (pc + 3) L (.int v :: st)) : zW Z h cb sb pc L st := zlift (fun _ _ _ _ _ w => lv_sipush hC.1 hC.2.1 d hv w) k
theorem r_null (hC : zC Z cc ret own hh fr lo) (d : decode cc pc = .ok (.aconst_null, 1)) (k : zW Z h cb sb (pc + 1) L (.null :: st)) : zW Z h cb sb pc L st := zlift (fun _ _ _ _ _ w => lv_null hC.1 hC.2.1 d w) k
theorem r_ldc (hC : zC Z cc ret own hh fr lo) {index : Nat} {v : Int32} (q : Cond.constant own index v ∈ lw_all) (d : decode cc pc = .ok (.ldc index, 2)) (k : zW Z h cb sb (pc + 2) L (.int v :: st)) : zW Z h cb sb pc L st := zlift (fun _ _ _ _ _ w => lv_ldc hC.1 hC.2.1 hC.2.2.2.2.1 (hC.2.2.2.2.2.1 _ q) d w) k
theorem r_ldcw (hC : zC Z cc ret own hh fr lo) {index : Nat} {v : Int32} (q : Cond.constant own index v ∈ lw_all) (d : decode cc pc = .ok (.ldc_w index, 3)) (k : zW Z h cb sb (pc + 3) L (.int v :: st)) : zW Z h cb sb pc L st := zlift (fun _ _ _ _ _ w => lv_ldcw hC.1 hC.2.1 hC.2.2.2.2.1 (hC.2.2.2.2.2.1 _ q) d w) k
theorem r_iadd (hC : zC Z cc ret own hh fr lo) {x y : Int32} (d : decode cc pc = .ok (.iadd, 1)) (k : zW Z h cb sb (pc + 1) L (.int (x + y) :: rest)) : zW Z h cb sb pc L (.int y :: .int x :: rest) := zlift (fun _ _ _ _ _ w => lv_iadd hC.1 hC.2.1 d w) k
theorem r_isub (hC : zC Z cc ret own hh fr lo) {x y : Int32} (d : decode cc pc = .ok (.isub, 1)) (k : zW Z h cb sb (pc + 1) L (.int (x - y) :: rest)) : zW Z h cb sb pc L (.int y :: .int x :: rest) := zlift (fun _ _ _ _ _ w => lv_isub hC.1 hC.2.1 d w) k
theorem r_imul (hC : zC Z cc ret own hh fr lo) {x y : Int32} (d : decode cc pc = .ok (.imul, 1)) (k : zW Z h cb sb (pc + 1) L (.int (x * y) :: rest)) : zW Z h cb sb pc L (.int y :: .int x :: rest) := zlift (fun _ _ _ _ _ w => lv_imul hC.1 hC.2.1 d w) k
theorem r_irem (hC : zC Z cc ret own hh fr lo) {x y : Int32} (d : decode cc pc = .ok (.irem, 1)) (hn : ¬ y = 0) (k : zW Z h cb sb (pc + 1) L (.int (x - x / y * y) :: rest)) : zW Z h cb sb pc L (.int y :: .int x :: rest) := zlift (fun _ _ _ _ _ w => lv_irem hC.1 hC.2.1 d hn w) k
theorem r_iand (hC : zC Z cc ret own hh fr lo) {x y : Int32} (d : decode cc pc = .ok (.iand, 1)) (k : zW Z h cb sb (pc + 1) L (.int (x &&& y) :: rest)) : zW Z h cb sb pc L (.int y :: .int x :: rest) := zlift (fun _ _ _ _ _ w => lv_iand hC.1 hC.2.1 d w) k
theorem r_ior (hC : zC Z cc ret own hh fr lo) {x y : Int32} (d : decode cc pc = .ok (.ior, 1)) (k : zW Z h cb sb (pc + 1) L (.int (x ||| y) :: rest)) : zW Z h cb sb pc L (.int y :: .int x :: rest) := zlift (fun _ _ _ _ _ w => lv_ior hC.1 hC.2.1 d w) k
theorem r_ishl (hC : zC Z cc ret own hh fr lo) {x y : Int32} (d : decode cc pc = .ok (.ishl, 1)) (k : zW Z h cb sb (pc + 1) L (.int (x <<< (y &&& 31)) :: rest)) : zW Z h cb sb pc L (.int y :: .int x :: rest) := zlift (fun _ _ _ _ _ w => lv_ishl hC.1 hC.2.1 d w) k
theorem r_ishr (hC : zC Z cc ret own hh fr lo) {x y : Int32} (d : decode cc pc = .ok (.ishr, 1)) (k : zW Z h cb sb (pc + 1) L (.int (x >>> (y &&& 31)) :: rest)) : zW Z h cb sb pc L (.int y :: .int x :: rest) := zlift (fun _ _ _ _ _ w => lv_ishr hC.1 hC.2.1 d w) k
theorem r_ineg (hC : zC Z cc ret own hh fr lo) {x : Int32} (d : decode cc pc = .ok (.ineg, 1)) (k : zW Z h cb sb (pc + 1) L (.int (-x) :: rest)) : zW Z h cb sb pc L (.int x :: rest) := zlift (fun _ _ _ _ _ w => lv_ineg hC.1 hC.2.1 d w) k
theorem r_i2l (hC : zC Z cc ret own hh fr lo) {x : Int32} (d : decode cc pc = .ok (.i2l, 1)) (k : zW Z h cb sb (pc + 1) L (.long x.toInt64 :: rest)) : zW Z h cb sb pc L (.int x :: rest) := zlift (fun _ _ _ _ _ w => lv_i2l hC.1 hC.2.1 d rfl w) k
theorem r_ladd (hC : zC Z cc ret own hh fr lo) {x y : Int64} (d : decode cc pc = .ok (.ladd, 1)) (k : zW Z h cb sb (pc + 1) L (.long (x + y) :: rest)) : zW Z h cb sb pc L (.long y :: .long x :: rest) := zlift (fun _ _ _ _ _ w => lv_ladd hC.1 hC.2.1 d w) k
theorem r_lcmp (hC : zC Z cc ret own hh fr lo) {x y : Int64} (d : decode cc pc = .ok (.lcmp, 1)) (k : zW Z h cb sb (pc + 1) L (.int (lg_cmp x y) :: rest)) : zW Z h cb sb pc L (.long y :: .long x :: rest) := zlift (fun _ _ _ _ _ w => W.lcmp hC.1 hC.2.1 d w) k
theorem r_i2c (hC : zC Z cc ret own hh fr lo) {x : Int32} (d : decode cc pc = .ok (.i2c, 1)) (k : zW Z h cb sb (pc + 1) L (.int (x.toUInt32 % 65536).toInt32 :: rest)) : zW Z h cb sb pc L (.int x :: rest) := zlift (fun _ _ _ _ _ w => lv_i2c hC.1 hC.2.1 d rfl w) k
theorem r_i2b (hC : zC Z cc ret own hh fr lo) {x : Int32} (d : decode cc pc = .ok (.i2b, 1)) (k : zW Z h cb sb (pc + 1) L (.int x.toInt8.toInt32 :: rest)) : zW Z h cb sb pc L (.int x :: rest) := zlift (fun _ _ _ _ _ w => lv_i2b hC.1 hC.2.1 d rfl w) k
theorem r_dup (hC : zC Z cc ret own hh fr lo) {v : Value} (d : decode cc pc = .ok (.dup, 1)) (hv : v.category = 1) (k : zW Z h cb sb (pc + 1) L (v :: v :: rest)) : zW Z h cb sb pc L (v :: rest) := zlift (fun _ _ _ _ _ w => lv_dup hC.1 hC.2.1 d hv w) k
theorem r_pop (hC : zC Z cc ret own hh fr lo) {v : Value} (d : decode cc pc = .ok (.pop, 1)) (hv : v.category = 1) (k : zW Z h cb sb (pc + 1) L rest) : zW Z h cb sb pc L (v :: rest) := zlift (fun _ _ _ _ _ w => lv_pop hC.1 hC.2.1 d hv w) k
theorem r_dup_x1 (hC : zC Z cc ret own hh fr lo) {v u : Value} (d : decode cc pc = .ok (.dup_x1, 1)) (hv : v.category = 1) (hu : u.category = 1) (k : zW Z h cb sb (pc + 1) L (v :: u :: v :: rest)) : zW Z h cb sb pc L (v :: u :: rest) := zlift (fun _ _ _ _ _ w => lv_dup_x1 hC.1 hC.2.1 d hv hu w) k
theorem r_dup2 (hC : zC Z cc ret own hh fr lo) {v u : Value} (d : decode cc pc = .ok (.dup2, 1)) (hv : v.category = 1) (hu : u.category = 1) (k : zW Z h cb sb (pc + 1) L (v :: u :: v :: u :: rest)) : zW Z h cb sb pc L (v :: u :: rest) := zlift (fun _ _ _ _ _ w => lv_dup2_11 hC.1 hC.2.1 d hv hu w) k
theorem r_goto (hC : zC Z cc ret own hh fr lo) {off : Int} {tgt : Nat} (d : decode cc pc = .ok (.goto off, 3)) (ht : (pc : Int) + off = (tgt : Int)) (k : zW Z h cb sb tgt L st) : zW Z h cb sb pc L st := zlift (fun _ _ _ _ _ w => lv_goto hC.1 hC.2.1 d ht w) k
theorem r_tableIn (hC : zC Z cc ret own hh fr lo) {dflt lo9 hi9 : Int} {offs : Array Int} {len : Nat} {x : Int32} {off : Int} {tgt : Nat} (d : decode cc pc = .ok (.tableswitch dflt lo9 hi9 offs, len)) (h1 : ¬ x.toInt < lo9) (h2 : ¬ hi9 < x.toInt) (ho : offs[(x.toInt - lo9).toNat]? = some off) (ht : (pc : Int) + off = (tgt : Int)) (k : zW Z h cb sb tgt L rest) : zW Z h cb sb pc L (.int x :: rest) := zlift (fun _ _ _ _ _ w => lv_tableIn hC.1 hC.2.1 d h1 h2 ho ht w) k
theorem r_tableOut (hC : zC Z cc ret own hh fr lo) {dflt lo9 hi9 : Int} {offs : Array Int} {len : Nat} {x : Int32} {tgt : Nat} (d : decode cc pc = .ok (.tableswitch dflt lo9 hi9 offs, len)) (h1 : x.toInt < lo9 ∨ hi9 < x.toInt) (ht : (pc : Int) + dflt = (tgt : Int)) (k : zW Z h cb sb tgt L rest) : zW Z h cb sb pc L (.int x :: rest) := zlift (fun _ _ _ _ _ w => lv_tableOut hC.1 hC.2.1 d h1 ht w) k
/-- branches on numbers: both roads -/
theorem zbr {P : Prop} {pt pf : Nat} {st' : List Value} (row : ∀ (H : Heap) (locs : List Loc) (cells slots : Nat) (ls : Array Slot), (P → zw Z H locs cells slots (F0 (zm Z) pt ls st')) → (¬ P → zw Z H locs cells slots (F0 (zm Z) pf ls st')) → zw Z H locs cells slots (F0 (zm Z) pc ls st)) (kt : P → zW Z h cb sb pt L st') (kf : ¬ P → zW Z h cb sb pf L st') : zW Z h cb sb pc L st :=
  fun H locs cells slots ls ok a b c => row H locs cells slots ls (fun q => kt q H locs cells slots ls ok a b c) (fun q => kf q H locs cells slots ls ok a b c)
theorem r_if_eq (hC : zC Z cc ret own hh fr lo) {x : Int32} {off : Int} {tgt : Nat} (d : decode cc pc = .ok (.ifCond .eq off, 3)) (ht : (pc : Int) + off = (tgt : Int)) (kt : x = 0 → zW Z h cb sb tgt L rest) (kf : ¬ x = 0 → zW Z h cb sb (pc + 3) L rest) : zW Z h cb sb pc L (.int x :: rest) := zbr (fun _ _ _ _ _ a b => lv_if_eq hC.1 hC.2.1 d ht a b) kt kf
theorem r_if_ne (hC : zC Z cc ret own hh fr lo) {x : Int32} {off : Int} {tgt : Nat} (d : decode cc pc = .ok (.ifCond .ne off, 3)) (ht : (pc : Int) + off = (tgt : Int)) (kt : ¬ x = 0 → zW Z h cb sb tgt L rest) (kf : x = 0 → zW Z h cb sb (pc + 3) L rest) : zW Z h cb sb pc L (.int x :: rest) := zbr (P := ¬ x = 0) (fun _ _ _ _ _ a b => lv_if_ne hC.1 hC.2.1 d ht (fun q => a q) (fun q => b (fun n => n q))) kt (fun q => kf (Classical.byContradiction q))
theorem r_if_lt (hC : zC Z cc ret own hh fr lo) {x : Int32} {off : Int} {tgt : Nat} (d : decode cc pc = .ok (.ifCond .lt off, 3)) (ht : (pc : Int) + off = (tgt : Int)) (kt : x < 0 → zW Z h cb sb tgt L rest) (kf : ¬ x < 0 → zW Z h cb sb (pc + 3) L rest) : zW Z h cb sb pc L (.int x :: rest) := zbr (fun _ _ _ _ _ a b => lv_if_lt hC.1 hC.2.1 d ht a b) kt kf
theorem r_if_ge (hC : zC Z cc ret own hh fr lo) {x : Int32} {off : Int} {tgt : Nat} (d : decode cc pc = .ok (.ifCond .ge off, 3)) (ht : (pc : Int) + off = (tgt : Int)) (kt : 0 ≤ x → zW Z h cb sb tgt L rest) (kf : ¬ 0 ≤ x → zW Z h cb sb (pc + 3) L rest) : zW Z h cb sb pc L (.int x :: rest) := zbr (fun _ _ _ _ _ a b => lv_if_ge hC.1 hC.2.1 d ht (fun q => a q) (fun q => b q)) kt kf
theorem r_if_gt (hC : zC Z cc ret own hh fr lo) {x : Int32} {off : Int} {tgt : Nat} (d : decode cc pc = .ok (.ifCond .gt off, 3)) (ht : (pc : Int) + off = (tgt : Int)) (kt : 0 < x → zW Z h cb sb tgt L rest) (kf : ¬ 0 < x → zW Z h cb sb (pc + 3) L rest) : zW Z h cb sb pc L (.int x :: rest) := zbr (fun _ _ _ _ _ a b => lv_if_gt hC.1 hC.2.1 d ht (fun q => a q) (fun q => b q)) kt kf
theorem r_if_le (hC : zC Z cc ret own hh fr lo) {x : Int32} {off : Int} {tgt : Nat} (d : decode cc pc = .ok (.ifCond .le off, 3)) (ht : (pc : Int) + off = (tgt : Int)) (kt : x ≤ 0 → zW Z h cb sb tgt L rest) (kf : ¬ x ≤ 0 → zW Z h cb sb (pc + 3) L rest) : zW Z h cb sb pc L (.int x :: rest) := zbr (fun _ _ _ _ _ a b => lv_if_le hC.1 hC.2.1 d ht (fun q => a q) (fun q => b q)) kt kf
theorem r_icmp_eq (hC : zC Z cc ret own hh fr lo) {x y : Int32} {off : Int} {tgt : Nat} (d : decode cc pc = .ok (.if_icmp .eq off, 3)) (ht : (pc : Int) + off = (tgt : Int)) (kt : x = y → zW Z h cb sb tgt L rest) (kf : ¬ x = y → zW Z h cb sb (pc + 3) L rest) : zW Z h cb sb pc L (.int y :: .int x :: rest) := zbr (fun _ _ _ _ _ a b => lv_icmp_eq hC.1 hC.2.1 d ht a b) kt kf
theorem r_icmp_ne (hC : zC Z cc ret own hh fr lo) {x y : Int32} {off : Int} {tgt : Nat} (d : decode cc pc = .ok (.if_icmp .ne off, 3)) (ht : (pc : Int) + off = (tgt : Int)) (kt : ¬ x = y → zW Z h cb sb tgt L rest) (kf : x = y → zW Z h cb sb (pc + 3) L rest) : zW Z h cb sb pc L (.int y :: .int x :: rest) := zbr (P := ¬ x = y) (fun _ _ _ _ _ a b => lv_icmp_ne hC.1 hC.2.1 d ht (fun q => a q) (fun q => b (fun n => n q))) kt (fun q => kf (Classical.byContradiction q))
theorem r_icmp_lt (hC : zC Z cc ret own hh fr lo) {x y : Int32} {off : Int} {tgt : Nat} (d : decode cc pc = .ok (.if_icmp .lt off, 3)) (ht : (pc : Int) + off = (tgt : Int)) (kt : x < y → zW Z h cb sb tgt L rest) (kf : ¬ x < y → zW Z h cb sb (pc + 3) L rest) : zW Z h cb sb pc L (.int y :: .int x :: rest) := zbr (fun _ _ _ _ _ a b => lv_icmp_lt hC.1 hC.2.1 d ht (fun q => a q) (fun q => b q)) kt kf
theorem r_icmp_ge (hC : zC Z cc ret own hh fr lo) {x y : Int32} {off : Int} {tgt : Nat} (d : decode cc pc = .ok (.if_icmp .ge off, 3)) (ht : (pc : Int) + off = (tgt : Int)) (kt : y ≤ x → zW Z h cb sb tgt L rest) (kf : ¬ y ≤ x → zW Z h cb sb (pc + 3) L rest) : zW Z h cb sb pc L (.int y :: .int x :: rest) := zbr (fun _ _ _ _ _ a b => lv_icmp_ge hC.1 hC.2.1 d ht (fun q => a q) (fun q => b q)) kt kf
theorem r_icmp_gt (hC : zC Z cc ret own hh fr lo) {x y : Int32} {off : Int} {tgt : Nat} (d : decode cc pc = .ok (.if_icmp .gt off, 3)) (ht : (pc : Int) + off = (tgt : Int)) (kt : y < x → zW Z h cb sb tgt L rest) (kf : ¬ y < x → zW Z h cb sb (pc + 3) L rest) : zW Z h cb sb pc L (.int y :: .int x :: rest) := zbr (fun _ _ _ _ _ a b => lv_icmp_gt hC.1 hC.2.1 d ht (fun q => a q) (fun q => b q)) kt kf
theorem r_icmp_le (hC : zC Z cc ret own hh fr lo) {x y : Int32} {off : Int} {tgt : Nat} (d : decode cc pc = .ok (.if_icmp .le off, 3)) (ht : (pc : Int) + off = (tgt : Int)) (kt : x ≤ y → zW Z h cb sb tgt L rest) (kf : ¬ x ≤ y → zW Z h cb sb (pc + 3) L rest) : zW Z h cb sb pc L (.int y :: .int x :: rest) := zbr (fun _ _ _ _ _ a b => lv_icmp_le hC.1 hC.2.1 d ht (fun q => a q) (fun q => b q)) kt kf
theorem r_acmp_eq (hC : zC Z cc ret own hh fr lo) {x y : Option Nat} {off : Int} {tgt : Nat} (d : decode cc pc = .ok (.if_acmp .eq off, 3)) (ht : (pc : Int) + off = (tgt : Int)) {vx vy : Value} (hx : va_rf x = vx) (hy : va_rf y = vy) (kt : x = y → zW Z h cb sb tgt L rest) (kf : ¬ x = y → zW Z h cb sb (pc + 3) L rest) : zW Z h cb sb pc L (vy :: vx :: rest) := by
  subst hx; subst hy
  exact zbr (fun _ _ _ _ _ a b => lv_acmp_eq hC.1 hC.2.1 d ht a b) kt kf
theorem r_acmp_ne (hC : zC Z cc ret own hh fr lo) {x y : Option Nat} {off : Int} {tgt : Nat} (d : decode cc pc = .ok (.if_acmp .ne off, 3)) (ht : (pc : Int) + off = (tgt : Int)) {vx vy : Value} (hx : va_rf x = vx) (hy : va_rf y = vy) (kt : ¬ x = y → zW Z h cb sb tgt L rest) (kf : x = y → zW Z h cb sb (pc + 3) L rest) : zW Z h cb sb pc L (vy :: vx :: rest) := by
  subst hx; subst hy
  exact zbr (P := ¬ x = y) (fun _ _ _ _ _ a b => lv_acmp_ne hC.1 hC.2.1 d ht (fun q => a q) (fun q => b (fun n => n q))) kt (fun q => kf (Classical.byContradiction q))
theorem r_ifnull (hC : zC Z cc ret own hh fr lo) {x : Option Nat} {off : Int} {tgt : Nat} (d : decode cc pc = .ok (.ifnull off, 3)) (ht : (pc : Int) + off = (tgt : Int)) {v : Value} (hv : va_rf x = v) (kt : x = none → zW Z h cb sb tgt L rest) (kf : ∀ a, x = some a → zW Z h cb sb (pc + 3) L rest) : zW Z h cb sb pc L (v :: rest) := by
  subst hv
  cases x with
  | none => exact zlift (fun _ _ _ _ _ w => lv_ifnullN hC.1 hC.2.1 d ht w) (kt rfl)
  | some a => exact zlift (fun _ _ _ _ _ w => lv_ifnull hC.1 hC.2.1 d w) (kf a rfl)
theorem r_ifnonnull (hC : zC Z cc ret own hh fr lo) {x : Option Nat} {off : Int} {tgt : Nat} (d : decode cc pc = .ok (.ifnonnull off, 3)) (ht : (pc : Int) + off = (tgt : Int)) {v : Value} (hv : va_rf x = v) (kt : ∀ a, x = some a → zW Z h cb sb tgt L rest) (kf : x = none → zW Z h cb sb (pc + 3) L rest) : zW Z h cb sb pc L (v :: rest) := by
  subst hv
  cases x with
  | none => exact zlift (fun _ _ _ _ _ w => lv_ifnonnullN hC.1 hC.2.1 d w) (kf rfl)
  | some a => exact zlift (fun _ _ _ _ _ w => lv_ifnonnull hC.1 hC.2.1 d ht w) (kt a rfl)
/-- loads -/
def zisR : Value → Bool
  | .null => true
  | .ref _ => true
  | _ => false
theorem zisR_rf (x : Option Nat) : zisR (va_rf x) = true := by cases x <;> rfl
theorem r_iload_n (hC : zC Z cc ret own hh fr lo) {i : Fin 4} {x : Int32} (d : decode cc pc = .ok (.iload_n i, 1)) (hl : L[(i : Nat)]? = some (some (.int x))) (k : zW Z h cb sb (pc + 1) L (.int x :: st)) : zW Z h cb sb pc L st :=
  fun H locs cells slots ls ok a b c => lv_iload_n hC.1 hC.2.1 d rfl (c.2.2.2 _ _ hl).1 (k H locs cells slots ls ok a b c)
theorem r_iload (hC : zC Z cc ret own hh fr lo) {i : Nat} {x : Int32} (d : decode cc pc = .ok (.iload i, 2)) (hl : L[i]? = some (some (.int x))) (k : zW Z h cb sb (pc + 2) L (.int x :: st)) : zW Z h cb sb pc L st :=
  fun H locs cells slots ls ok a b c => lv_iload hC.1 hC.2.1 d (c.2.2.2 _ _ hl).1 (k H locs cells slots ls ok a b c)
theorem r_aload_n (hC : zC Z cc ret own hh fr lo) {i : Fin 4} {v : Value} (d : decode cc pc = .ok (.aload_n i, 1)) (hl : L[(i : Nat)]? = some (some v)) (hv : zisR v = true) (k : zW Z h cb sb (pc + 1) L (v :: st)) : zW Z h cb sb pc L st := by
  intro H locs cells slots ls ok a b c
  cases v with
  | null => exact lv_aload_nN hC.1 hC.2.1 d rfl (c.2.2.2 _ _ hl).1 (k H locs cells slots ls ok a b c)
  | ref a9 => exact lv_aload_n hC.1 hC.2.1 d rfl (c.2.2.2 _ _ hl).1 (k H locs cells slots ls ok a b c)
  | _ => cases hv
theorem r_aload (hC : zC Z cc ret own hh fr lo) {i : Nat} {v : Value} (d : decode cc pc = .ok (.aload i, 2)) (hl : L[i]? = some (some v)) (hv : zisR v = true) (k : zW Z h cb sb (pc + 2) L (v :: st)) : zW Z h cb sb pc L st := by
  intro H locs cells slots ls ok a b c
  cases v with
  | null => exact lv_aloadN hC.1 hC.2.1 d (c.2.2.2 _ _ hl).1 (k H locs cells slots ls ok a b c)
  | ref a9 => exact lv_aload hC.1 hC.2.1 d (c.2.2.2 _ _ hl).1 (k H locs cells slots ls ok a b c)
  | _ => cases hv
/-- stores -/
theorem zstore {i : Nat} {v : Value} {pc' : Nat} {L' : List (Option Value)} (row : ∀ T : State, At T (zm Z) (zc Z) (zb Z) → ∀ (ls ls' : Array Slot), storeLocals ls i v = some ls' → ∀ tg, Steps (zp Z).tables (ze Z) (zb Z) (T.setTop (F0 (zm Z) pc' ls' rest)) tg → Steps (zp Z).tables (ze Z) (zb Z) (T.setTop (F0 (zm Z) pc ls st)) tg) (hi : i < L.length) (hc : v.category = 1) (hL : L.set i (some v) = L') (k : zW Z h cb sb pc' L' rest) : zW Z h cb sb pc L st := by
  subst hL
  intro H locs cells slots ls ok a b c
  obtain ⟨ls', e, c'⟩ := c.store hi hc
  exact W.go (fun T hA tg => row T hA ls ls' e tg) (k H locs cells slots ls' ok a b c')
theorem r_istore_n (hC : zC Z cc ret own hh fr lo) {i : Fin 4} {x : Int32} {L' : List (Option Value)} (d : decode cc pc = .ok (.istore_n i, 1)) (hi : (i : Nat) < L.length) (hL : L.set (i : Nat) (some (.int x)) = L') (k : zW Z h cb sb (pc + 1) L' rest) : zW Z h cb sb pc L (.int x :: rest) := by
  refine zstore (fun T hA ls ls' e tg a => ?_) hi rfl hL k
  have hx := hC.1
  have hb := hC.2.1
  jvm_step hA [hA.top, ↓top_set hA.top, hx, hb, d, e]
  exact a
theorem r_istore (hC : zC Z cc ret own hh fr lo) {i : Nat} {x : Int32} {L' : List (Option Value)} (d : decode cc pc = .ok (.istore i, 2)) (hi : i < L.length) (hL : L.set i (some (.int x)) = L') (k : zW Z h cb sb (pc + 2) L' rest) : zW Z h cb sb pc L (.int x :: rest) := by
  refine zstore (fun T hA ls ls' e tg a => ?_) hi rfl hL k
  have hx := hC.1
  have hb := hC.2.1
  jvm_step hA [hA.top, ↓top_set hA.top, hx, hb, d, e]
  exact a
theorem r_astore_n (hC : zC Z cc ret own hh fr lo) {i : Fin 4} {v : Value} {L' : List (Option Value)} (d : decode cc pc = .ok (.astore_n i, 1)) (hv : zisR v = true) (hi : (i : Nat) < L.length) (hL : L.set (i : Nat) (some v) = L') (k : zW Z h cb sb (pc + 1) L' rest) : zW Z h cb sb pc L (v :: rest) := by
  have hx := hC.1
  have hb := hC.2.1
  cases v with
  | null =>
    refine zstore (fun T hA ls ls' e tg a => ?_) hi rfl hL k
    jvm_step hA [hA.top, ↓top_set hA.top, hx, hb, d, e, Value.isRef]
    exact a
  | ref a9 =>
    refine zstore (fun T hA ls ls' e tg a => ?_) hi rfl hL k
    jvm_step hA [hA.top, ↓top_set hA.top, hx, hb, d, e, Value.isRef]
    exact a
  | _ => cases hv
theorem r_astore (hC : zC Z cc ret own hh fr lo) {i : Nat} {v : Value} {L' : List (Option Value)} (d : decode cc pc = .ok (.astore i, 2)) (hv : zisR v = true) (hi : i < L.length) (hL : L.set i (some v) = L') (k : zW Z h cb sb (pc + 2) L' rest) : zW Z h cb sb pc L (v :: rest) := by
  have hx := hC.1
  have hb := hC.2.1
  cases v with
  | null =>
    refine zstore (fun T hA ls ls' e tg a => ?_) hi rfl hL k
    jvm_step hA [hA.top, ↓top_set hA.top, hx, hb, d, e, Value.isRef]
    exact a
  | ref a9 =>
    refine zstore (fun T hA ls ls' e tg a => ?_) hi rfl hL k
    jvm_step hA [hA.top, ↓top_set hA.top, hx, hb, d, e, Value.isRef]
    exact a
  | _ => cases hv
theorem r_iinc (hC : zC Z cc ret own hh fr lo) {i : Nat} {n : Int} {x v : Int32} {L' : List (Option Value)} (d : decode cc pc = .ok (.iinc i n, 3)) (hl : L[i]? = some (some (.int x))) (hv : x + Int32.ofInt n = v) (hL : L.set i (some (.int v)) = L') (k : zW Z h cb sb (pc + 3) L' st) : zW Z h cb sb pc L st := by
  subst hL; subst hv
  have hx := hC.1
  have hb := hC.2.1
  have hi : i < L.length := (List.getElem?_eq_some_iff.mp hl).1
  intro H locs cells slots ls ok a b c
  obtain ⟨ls', e, c'⟩ := c.store (v := .int (x + Int32.ofInt n)) hi rfl
  have hg := (c.2.2.2 _ _ hl).1
  refine W.go (fun T hA tg a => ?_) (k H locs cells slots ls' ok a b c')
  jvm_step hA [hA.top, ↓top_set hA.top, hx, hb, d, hg, e]
  exact a
theorem r_ist0 (hC : zC Z cc ret own hh fr lo) {x : Int32} {o : Option Value} {t : List (Option Value)} (d : decode cc pc = .ok (.istore_n 0, 1)) (k : zW Z h cb sb (pc + 1) (some (.int x) :: t) rest) : zW Z h cb sb pc (o :: t) (.int x :: rest) := r_istore_n hC d (by show 0 < _; simp only [List.length_cons]; omega) rfl k
theorem r_ast0 (hC : zC Z cc ret own hh fr lo) {v : Value} {o : Option Value} {t : List (Option Value)} (d : decode cc pc = .ok (.astore_n 0, 1)) (hv : zisR v = true) (k : zW Z h cb sb (pc + 1) (some v :: t) rest) : zW Z h cb sb pc (o :: t) (v :: rest) := r_astore_n hC d hv (by show 0 < _; simp only [List.length_cons]; omega) rfl k
theorem r_inc0 (hC : zC Z cc ret own hh fr lo) {x v : Int32} {n : Int} {t : List (Option Value)} (d : decode cc pc = .ok (.iinc 0 n, 3)) (hv : x + Int32.ofInt n = v) (k : zW Z h cb sb (pc + 3) (some (.int v) :: t) st) : zW Z h cb sb pc (some (.int x) :: t) st := r_iinc hC d (i := 0) rfl hv rfl k
theorem r_ist1 (hC : zC Z cc ret own hh fr lo) {x : Int32} {l0 o : Option Value} {t : List (Option Value)} (d : decode cc pc = .ok (.istore_n 1, 1)) (k : zW Z h cb sb (pc + 1) (l0 :: some (.int x) :: t) rest) : zW Z h cb sb pc (l0 :: o :: t) (.int x :: rest) := r_istore_n hC d (by show 1 < _; simp only [List.length_cons]; omega) rfl k
theorem r_ast1 (hC : zC Z cc ret own hh fr lo) {v : Value} {l0 o : Option Value} {t : List (Option Value)} (d : decode cc pc = .ok (.astore_n 1, 1)) (hv : zisR v = true) (k : zW Z h cb sb (pc + 1) (l0 :: some v :: t) rest) : zW Z h cb sb pc (l0 :: o :: t) (v :: rest) := r_astore_n hC d hv (by show 1 < _; simp only [List.length_cons]; omega) rfl k
theorem r_inc1 (hC : zC Z cc ret own hh fr lo) {x v : Int32} {n : Int} {l0 : Option Value} {t : List (Option Value)} (d : decode cc pc = .ok (.iinc 1 n, 3)) (hv : x + Int32.ofInt n = v) (k : zW Z h cb sb (pc + 3) (l0 :: some (.int v) :: t) st) : zW Z h cb sb pc (l0 :: some (.int x) :: t) st := r_iinc hC d (i := 1) rfl hv rfl k
theorem r_ist2 (hC : zC Z cc ret own hh fr lo) {x : Int32} {l0 l1 o : Option Value} {t : List (Option Value)} (d : decode cc pc = .ok (.istore_n 2, 1)) (k : zW Z h cb sb (pc + 1) (l0 :: l1 :: some (.int x) :: t) rest) : zW Z h cb sb pc (l0 :: l1 :: o :: t) (.int x :: rest) := r_istore_n hC d (by show 2 < _; simp only [List.length_cons]; omega) rfl k
theorem r_ast2 (hC : zC Z cc ret own hh fr lo) {v : Value} {l0 l1 o : Option Value} {t : List (Option Value)} (d : decode cc pc = .ok (.astore_n 2, 1)) (hv : zisR v = true) (k : zW Z h cb sb (pc + 1) (l0 :: l1 :: some v :: t) rest) : zW Z h cb sb pc (l0 :: l1 :: o :: t) (v :: rest) := r_astore_n hC d hv (by show 2 < _; simp only [List.length_cons]; omega) rfl k
theorem r_inc2 (hC : zC Z cc ret own hh fr lo) {x v : Int32} {n : Int} {l0 l1 : Option Value} {t : List (Option Value)} (d : decode cc pc = .ok (.iinc 2 n, 3)) (hv : x + Int32.ofInt n = v) (k : zW Z h cb sb (pc + 3) (l0 :: l1 :: some (.int v) :: t) st) : zW Z h cb sb pc (l0 :: l1 :: some (.int x) :: t) st := r_iinc hC d (i := 2) rfl hv rfl k
theorem r_ist3 (hC : zC Z cc ret own hh fr lo) {x : Int32} {l0 l1 l2 o : Option Value} {t : List (Option Value)} (d : decode cc pc = .ok (.istore_n 3, 1)) (k : zW Z h cb sb (pc + 1) (l0 :: l1 :: l2 :: some (.int x) :: t) rest) : zW Z h cb sb pc (l0 :: l1 :: l2 :: o :: t) (.int x :: rest) := r_istore_n hC d (by show 3 < _; simp only [List.length_cons]; omega) rfl k
theorem r_ast3 (hC : zC Z cc ret own hh fr lo) {v : Value} {l0 l1 l2 o : Option Value} {t : List (Option Value)} (d : decode cc pc = .ok (.astore_n 3, 1)) (hv : zisR v = true) (k : zW Z h cb sb (pc + 1) (l0 :: l1 :: l2 :: some v :: t) rest) : zW Z h cb sb pc (l0 :: l1 :: l2 :: o :: t) (v :: rest) := r_astore_n hC d hv (by show 3 < _; simp only [List.length_cons]; omega) rfl k
theorem r_inc3 (hC : zC Z cc ret own hh fr lo) {x v : Int32} {n : Int} {l0 l1 l2 : Option Value} {t : List (Option Value)} (d : decode cc pc = .ok (.iinc 3 n, 3)) (hv : x + Int32.ofInt n = v) (k : zW Z h cb sb (pc + 3) (l0 :: l1 :: l2 :: some (.int v) :: t) st) : zW Z h cb sb pc (l0 :: l1 :: l2 :: some (.int x) :: t) st := r_iinc hC d (i := 3) rfl hv rfl k
theorem r_ist4 (hC : zC Z cc ret own hh fr lo) {x : Int32} {l0 l1 l2 l3 o : Option Value} {t : List (Option Value)} (d : decode cc pc = .ok (.istore 4, 2)) (k : zW Z h cb sb (pc + 2) (l0 :: l1 :: l2 :: l3 :: some (.int x) :: t) rest) : zW Z h cb sb pc (l0 :: l1 :: l2 :: l3 :: o :: t) (.int x :: rest) := r_istore hC d (by show 4 < _; simp only [List.length_cons]; omega) rfl k
theorem r_ast4 (hC : zC Z cc ret own hh fr lo) {v : Value} {l0 l1 l2 l3 o : Option Value} {t : List (Option Value)} (d : decode cc pc = .ok (.astore 4, 2)) (hv : zisR v = true) (k : zW Z h cb sb (pc + 2) (l0 :: l1 :: l2 :: l3 :: some v :: t) rest) : zW Z h cb sb pc (l0 :: l1 :: l2 :: l3 :: o :: t) (v :: rest) := r_astore hC d hv (by show 4 < _; simp only [List.length_cons]; omega) rfl k
theorem r_inc4 (hC : zC Z cc ret own hh fr lo) {x v : Int32} {n : Int} {l0 l1 l2 l3 : Option Value} {t : List (Option Value)} (d : decode cc pc = .ok (.iinc 4 n, 3)) (hv : x + Int32.ofInt n = v) (k : zW Z h cb sb (pc + 3) (l0 :: l1 :: l2 :: l3 :: some (.int v) :: t) st) : zW Z h cb sb pc (l0 :: l1 :: l2 :: l3 :: some (.int x) :: t) st := r_iinc hC d (i := 4) rfl hv rfl k
theorem r_ist5 (hC : zC Z cc ret own hh fr lo) {x : Int32} {l0 l1 l2 l3 l4 o : Option Value} {t : List (Option Value)} (d : decode cc pc = .ok (.istore 5, 2)) (k : zW Z h cb sb (pc + 2) (l0 :: l1 :: l2 :: l3 :: l4 :: some (.int x) :: t) rest) : zW Z h cb sb pc (l0 :: l1 :: l2 :: l3 :: l4 :: o :: t) (.int x :: rest) := r_istore hC d (by show 5 < _; simp only [List.length_cons]; omega) rfl k
theorem r_ast5 (hC : zC Z cc ret own hh fr lo) {v : Value} {l0 l1 l2 l3 l4 o : Option Value} {t : List (Option Value)} (d : decode cc pc = .ok (.astore 5, 2)) (hv : zisR v = true) (k : zW Z h cb sb (pc + 2) (l0 :: l1 :: l2 :: l3 :: l4 :: some v :: t) rest) : zW Z h cb sb pc (l0 :: l1 :: l2 :: l3 :: l4 :: o :: t) (v :: rest) := r_astore hC d hv (by show 5 < _; simp only [List.length_cons]; omega) rfl k
theorem r_inc5 (hC : zC Z cc ret own hh fr lo) {x v : Int32} {n : Int} {l0 l1 l2 l3 l4 : Option Value} {t : List (Option Value)} (d : decode cc pc = .ok (.iinc 5 n, 3)) (hv : x + Int32.ofInt n = v) (k : zW Z h cb sb (pc + 3) (l0 :: l1 :: l2 :: l3 :: l4 :: some (.int v) :: t) st) : zW Z h cb sb pc (l0 :: l1 :: l2 :: l3 :: l4 :: some (.int x) :: t) st := r_iinc hC d (i := 5) rfl hv rfl k
theorem r_ist6 (hC : zC Z cc ret own hh fr lo) {x : Int32} {l0 l1 l2 l3 l4 l5 o : Option Value} {t : List (Option Value)} (d : decode cc pc = .ok (.istore 6, 2)) (k : zW Z h cb sb (pc + 2) (l0 :: l1 :: l2 :: l3 :: l4 :: l5 :: some (.int x) :: t) rest) : zW Z h cb sb pc (l0 :: l1 :: l2 :: l3 :: l4 :: l5 :: o :: t) (.int x :: rest) := r_istore hC d (by show 6 < _; simp only [List.length_cons]; omega) rfl k
theorem r_ast6 (hC : zC Z cc ret own hh fr lo) {v : Value} {l0 l1 l2 l3 l4 l5 o : Option Value} {t : List (Option Value)} (d : decode cc pc = .ok (.astore 6, 2)) (hv : zisR v = true) (k : zW Z h cb sb (pc + 2) (l0 :: l1 :: l2 :: l3 :: l4 :: l5 :: some v :: t) rest) : zW Z h cb sb pc (l0 :: l1 :: l2 :: l3 :: l4 :: l5 :: o :: t) (v :: rest) := r_astore hC d hv (by show 6 < _; simp only [List.length_cons]; omega) rfl k
theorem r_inc6 (hC : zC Z cc ret own hh fr lo) {x v : Int32} {n : Int} {l0 l1 l2 l3 l4 l5 : Option Value} {t : List (Option Value)} (d : decode cc pc = .ok (.iinc 6 n, 3)) (hv : x + Int32.ofInt n = v) (k : zW Z h cb sb (pc + 3) (l0 :: l1 :: l2 :: l3 :: l4 :: l5 :: some (.int v) :: t) st) : zW Z h cb sb pc (l0 :: l1 :: l2 :: l3 :: l4 :: l5 :: some (.int x) :: t) st := r_iinc hC d (i := 6) rfl hv rfl k
theorem r_ist7 (hC : zC Z cc ret own hh fr lo) {x : Int32} {l0 l1 l2 l3 l4 l5 l6 o : Option Value} {t : List (Option Value)} (d : decode cc pc = .ok (.istore 7, 2)) (k : zW Z h cb sb (pc + 2) (l0 :: l1 :: l2 :: l3 :: l4 :: l5 :: l6 :: some (.int x) :: t) rest) : zW Z h cb sb pc (l0 :: l1 :: l2 :: l3 :: l4 :: l5 :: l6 :: o :: t) (.int x :: rest) := r_istore hC d (by show 7 < _; simp only [List.length_cons]; omega) rfl k
theorem r_ast7 (hC : zC Z cc ret own hh fr lo) {v : Value} {l0 l1 l2 l3 l4 l5 l6 o : Option Value} {t : List (Option Value)} (d : decode cc pc = .ok (.astore 7, 2)) (hv : zisR v = true) (k : zW Z h cb sb (pc + 2) (l0 :: l1 :: l2 :: l3 :: l4 :: l5 :: l6 :: some v :: t) rest) : zW Z h cb sb pc (l0 :: l1 :: l2 :: l3 :: l4 :: l5 :: l6 :: o :: t) (v :: rest) := r_astore hC d hv (by show 7 < _; simp only [List.length_cons]; omega) rfl k
theorem r_inc7 (hC : zC Z cc ret own hh fr lo) {x v : Int32} {n : Int} {l0 l1 l2 l3 l4 l5 l6 : Option Value} {t : List (Option Value)} (d : decode cc pc = .ok (.iinc 7 n, 3)) (hv : x + Int32.ofInt n = v) (k : zW Z h cb sb (pc + 3) (l0 :: l1 :: l2 :: l3 :: l4 :: l5 :: l6 :: some (.int v) :: t) st) : zW Z h cb sb pc (l0 :: l1 :: l2 :: l3 :: l4 :: l5 :: l6 :: some (.int x) :: t) st := r_iinc hC d (i := 7) rfl hv rfl k
theorem r_ist8 (hC : zC Z cc ret own hh fr lo) {x : Int32} {l0 l1 l2 l3 l4 l5 l6 l7 o : Option Value} {t : List (Option Value)} (d : decode cc pc = .ok (.istore 8, 2)) (k : zW Z h cb sb (pc + 2) (l0 :: l1 :: l2 :: l3 :: l4 :: l5 :: l6 :: l7 :: some (.int x) :: t) rest) : zW Z h cb sb pc (l0 :: l1 :: l2 :: l3 :: l4 :: l5 :: l6 :: l7 :: o :: t) (.int x :: rest) := r_istore hC d (by show 8 < _; simp only [List.length_cons]; omega) rfl k
theorem r_ast8 (hC : zC Z cc ret own hh fr lo) {v : Value} {l0 l1 l2 l3 l4 l5 l6 l7 o : Option Value} {t : List (Option Value)} (d : decode cc pc = .ok (.astore 8, 2)) (hv : zisR v = true) (k : zW Z h cb sb (pc + 2) (l0 :: l1 :: l2 :: l3 :: l4 :: l5 :: l6 :: l7 :: some v :: t) rest) : zW Z h cb sb pc (l0 :: l1 :: l2 :: l3 :: l4 :: l5 :: l6 :: l7 :: o :: t) (v :: rest) := r_astore hC d hv (by show 8 < _; simp only [List.length_cons]; omega) rfl k
theorem r_inc8 (hC : zC Z cc ret own hh fr lo) {x v : Int32} {n : Int} {l0 l1 l2 l3 l4 l5 l6 l7 : Option Value} {t : List (Option Value)} (d : decode cc pc = .ok (.iinc 8 n, 3)) (hv : x + Int32.ofInt n = v) (k : zW Z h cb sb (pc + 3) (l0 :: l1 :: l2 :: l3 :: l4 :: l5 :: l6 :: l7 :: some (.int v) :: t) st) : zW Z h cb sb pc (l0 :: l1 :: l2 :: l3 :: l4 :: l5 :: l6 :: l7 :: some (.int x) :: t) st := r_iinc hC d (i := 8) rfl hv rfl k
theorem r_ist9 (hC : zC Z cc ret own hh fr lo) {x : Int32} {l0 l1 l2 l3 l4 l5 l6 l7 l8 o : Option Value} {t : List (Option Value)} (d : decode cc pc = .ok (.istore 9, 2)) (k : zW Z h cb sb (pc + 2) (l0 :: l1 :: l2 :: l3 :: l4 :: l5 :: l6 :: l7 :: l8 :: some (.int x) :: t) rest) : zW Z h cb sb pc (l0 :: l1 :: l2 :: l3 :: l4 :: l5 :: l6 :: l7 :: l8 :: o :: t) (.int x :: rest) := r_istore hC d (by show 9 < _; simp only [List.length_cons]; omega) rfl k
theorem r_ast9 (hC : zC Z cc ret own hh fr lo) {v : Value} {l0 l1 l2 l3 l4 l5 l6 l7 l8 o : Option Value} {t : List (Option Value)} (d : decode cc pc = .ok (.astore 9, 2)) (hv : zisR v = true) (k : zW Z h cb sb (pc + 2) (l0 :: l1 :: l2 :: l3 :: l4 :: l5 :: l6 :: l7 :: l8 :: some v :: t) rest) : zW Z h cb sb pc (l0 :: l1 :: l2 :: l3 :: l4 :: l5 :: l6 :: l7 :: l8 :: o :: t) (v :: rest) := r_astore hC d hv (by show 9 < _; simp only [List.length_cons]; omega) rfl k
theorem r_inc9 (hC : zC Z cc ret own hh fr lo) {x v : Int32} {n : Int} {l0 l1 l2 l3 l4 l5 l6 l7 l8 : Option Value} {t : List (Option Value)} (d : decode cc pc = .ok (.iinc 9 n, 3)) (hv : x + Int32.ofInt n = v) (k : zW Z h cb sb (pc + 3) (l0 :: l1 :: l2 :: l3 :: l4 :: l5 :: l6 :: l7 :: l8 :: some (.int v) :: t) st) : zW Z h cb sb pc (l0 :: l1 :: l2 :: l3 :: l4 :: l5 :: l6 :: l7 :: l8 :: some (.int x) :: t) st := r_iinc hC d (i := 9) rfl hv rfl k
theorem r_ist10 (hC : zC Z cc ret own hh fr lo) {x : Int32} {l0 l1 l2 l3 l4 l5 l6 l7 l8 l9 o : Option Value} {t : List (Option Value)} (d : decode cc pc = .ok (.istore 10, 2)) (k : zW Z h cb sb (pc + 2) (l0 :: l1 :: l2 :: l3 :: l4 :: l5 :: l6 :: l7 :: l8 :: l9 :: some (.int x) :: t) rest) : zW Z h cb sb pc (l0 :: l1 :: l2 :: l3 :: l4 :: l5 :: l6 :: l7 :: l8 :: l9 :: o :: t) (.int x :: rest) := r_istore hC d (by show 10 < _; simp only [List.length_cons]; omega) rfl k
theorem r_ast10 (hC : zC Z cc ret own hh fr lo) {v : Value} {l0 l1 l2 l3 l4 l5 l6 l7 l8 l9 o : Option Value} {t : List (Option Value)} (d : decode cc pc = .ok (.astore 10, 2)) (hv : zisR v = true) (k : zW Z h cb sb (pc + 2) (l0 :: l1 :: l2 :: l3 :: l4 :: l5 :: l6 :: l7 :: l8 :: l9 :: some v :: t) rest) : zW Z h cb sb pc (l0 :: l1 :: l2 :: l3 :: l4 :: l5 :: l6 :: l7 :: l8 :: l9 :: o :: t) (v :: rest) := r_astore hC d hv (by show 10 < _; simp only [List.length_cons]; omega) rfl k
theorem r_inc10 (hC : zC Z cc ret own hh fr lo) {x v : Int32} {n : Int} {l0 l1 l2 l3 l4 l5 l6 l7 l8 l9 : Option Value} {t : List (Option Value)} (d : decode cc pc = .ok (.iinc 10 n, 3)) (hv : x + Int32.ofInt n = v) (k : zW Z h cb sb (pc + 3) (l0 :: l1 :: l2 :: l3 :: l4 :: l5 :: l6 :: l7 :: l8 :: l9 :: some (.int v) :: t) st) : zW Z h cb sb pc (l0 :: l1 :: l2 :: l3 :: l4 :: l5 :: l6 :: l7 :: l8 :: l9 :: some (.int x) :: t) st := r_iinc hC d (i := 10) rfl hv rfl k
theorem r_ist11 (hC : zC Z cc ret own hh fr lo) {x : Int32} {l0 l1 l2 l3 l4 l5 l6 l7 l8 l9 l10 o : Option Value} {t : List (Option Value)} (d : decode cc pc = .ok (.istore 11, 2)) (k : zW Z h cb sb (pc + 2) (l0 :: l1 :: l2 :: l3 :: l4 :: l5 :: l6 :: l7 :: l8 :: l9 :: l10 :: some (.int x) :: t) rest) : zW Z h cb sb pc (l0 :: l1 :: l2 :: l3 :: l4 :: l5 :: l6 :: l7 :: l8 :: l9 :: l10 :: o :: t) (.int x :: rest) := r_istore hC d (by show 11 < _; simp only [List.length_cons]; omega) rfl k
theorem r_ast11 (hC : zC Z cc ret own hh fr lo) {v : Value} {l0 l1 l2 l3 l4 l5 l6 l7 l8 l9 l10 o : Option Value} {t : List (Option Value)} (d : decode cc pc = .ok (.astore 11, 2)) (hv : zisR v = true) (k : zW Z h cb sb (pc + 2) (l0 :: l1 :: l2 :: l3 :: l4 :: l5 :: l6 :: l7 :: l8 :: l9 :: l10 :: some v :: t) rest) : zW Z h cb sb pc (l0 :: l1 :: l2 :: l3 :: l4 :: l5 :: l6 :: l7 :: l8 :: l9 :: l10 :: o :: t) (v :: rest) := r_astore hC d hv (by show 11 < _; simp only [List.length_cons]; omega) rfl k
theorem r_inc11 (hC : zC Z cc ret own hh fr lo) {x v : Int32} {n : Int} {l0 l1 l2 l3 l4 l5 l6 l7 l8 l9 l10 : Option Value} {t : List (Option Value)} (d : decode cc pc = .ok (.iinc 11 n, 3)) (hv : x + Int32.ofInt n = v) (k : zW Z h cb sb (pc + 3) (l0 :: l1 :: l2 :: l3 :: l4 :: l5 :: l6 :: l7 :: l8 :: l9 :: l10 :: some (.int v) :: t) st) : zW Z h cb sb pc (l0 :: l1 :: l2 :: l3 :: l4 :: l5 :: l6 :: l7 :: l8 :: l9 :: l10 :: some (.int x) :: t) st := r_iinc hC d (i := 11) rfl hv rfl k
theorem r_ist12 (hC : zC Z cc ret own hh fr lo) {x : Int32} {l0 l1 l2 l3 l4 l5 l6 l7 l8 l9 l10 l11 o : Option Value} {t : List (Option Value)} (d : decode cc pc = .ok (.istore 12, 2)) (k : zW Z h cb sb (pc + 2) (l0 :: l1 :: l2 :: l3 :: l4 :: l5 :: l6 :: l7 :: l8 :: l9 :: l10 :: l11 :: some (.int x) :: t) rest) : zW Z h cb sb pc (l0 :: l1 :: l2 :: l3 :: l4 :: l5 :: l6 :: l7 :: l8 :: l9 :: l10 :: l11 :: o :: t) (.int x :: rest) := r_istore hC d (by show 12 < _; simp only [List.length_cons]; omega) rfl k
theorem r_ast12 (hC : zC Z cc ret own hh fr lo) {v : Value} {l0 l1 l2 l3 l4 l5 l6 l7 l8 l9 l10 l11 o : Option Value} {t : List (Option Value)} (d : decode cc pc = .ok (.astore 12, 2)) (hv : zisR v = true) (k : zW Z h cb sb (pc + 2) (l0 :: l1 :: l2 :: l3 :: l4 :: l5 :: l6 :: l7 :: l8 :: l9 :: l10 :: l11 :: some v :: t) rest) : zW Z h cb sb pc (l0 :: l1 :: l2 :: l3 :: l4 :: l5 :: l6 :: l7 :: l8 :: l9 :: l10 :: l11 :: o :: t) (v :: rest) := r_astore hC d hv (by show 12 < _; simp only [List.length_cons]; omega) rfl k
theorem r_inc12 (hC : zC Z cc ret own hh fr lo) {x v : Int32} {n : Int} {l0 l1 l2 l3 l4 l5 l6 l7 l8 l9 l10 l11 : Option Value} {t : List (Option Value)} (d : decode cc pc = .ok (.iinc 12 n, 3)) (hv : x + Int32.ofInt n = v) (k : zW Z h cb sb (pc + 3) (l0 :: l1 :: l2 :: l3 :: l4 :: l5 :: l6 :: l7 :: l8 :: l9 :: l10 :: l11 :: some (.int v) :: t) st) : zW Z h cb sb pc (l0 :: l1 :: l2 :: l3 :: l4 :: l5 :: l6 :: l7 :: l8 :: l9 :: l10 :: l11 :: some (.int x) :: t) st := r_iinc hC d (i := 12) rfl hv rfl k
end ZROWS
