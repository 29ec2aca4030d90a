/-! CORE 4: throws, handlers, arraycopy, class objects, old cells -/
set_option maxRecDepth 100000
/-- the old cells that the walks read: the text "", its bytes, the empty list array, the Unsafe object -/
def zSt (g : zG) (h : zH) : Prop := h g.2.2.2.1 = some (.inr (7, [.ref g.2.2.2.2.1, .int 0])) ∧ (∃ f, h g.2.2.2.2.1 = some (.inl (4, 0, f))) ∧ (∃ f, h g.2.2.2.2.2.1 = some (.inl (5, 0, f))) ∧ h g.2.2.2.2.2.2.2 = some (.inr (9, []))
theorem zSt.mono {g : zG} {h h' : zH} (s : zSt g h) (l : zLe h h') : zSt g h' := by
  obtain ⟨a, ⟨f1, b⟩, ⟨f2, c⟩, d⟩ := s
  exact ⟨l _ _ a, ⟨f1, l _ _ b⟩, ⟨f2, l _ _ c⟩, l _ _ d⟩
theorem zLe.new {h : zH} {a : Nat} {e : zE} (hn : h a = none) : zLe h (zup h a e) := fun b e' q => by
  by_cases hb : b = a
  · rw [hb, hn] at q; cases q
  · rw [zup_n hb]; exact q
/-- a cell made since h may be written anew -/
theorem zLe.put {h h' : zH} {a : Nat} {e : zE} (hl : zLe h h') (hn : h a = none) : zLe h (zup h' a e) := fun b e' q => by
  by_cases hb : b = a
  · rw [hb, hn] at q; cases q
  · rw [zup_n hb]; exact hl b e' q
theorem zup_zup {h : zH} {a : Nat} {e e' : zE} : zup (zup h a e) a e' = zup h a e' := by
  funext b
  unfold zup
  by_cases hb : b = a <;> simp [hb]
theorem storePairs_slots (vs : List (Value × Nat)) (at_ : Nat) : ∀ (c c' : Cell), c.slots = c'.slots → (c.storePairs at_ vs).slots = (c'.storePairs at_ vs).slots := by
  induction vs with
  | nil => intro c c' h; exact h
  | cons q r ih =>
    intro c c' h
    show ((c.setSlot (at_ + q.2) q.1).storePairs at_ r).slots = ((c'.setSlot (at_ + q.2) q.1).storePairs at_ r).slots
    refine ih _ _ ?_
    simp only [Cell.setSlot, h]
theorem zcopied {c0 c1 : Cell} {n0 n1 sp dp n : Nat} {f g : Nat → Value} (s0 : c0.slots.size = n0) (h0 : ∀ j, j < n0 → c0.slots[j]? = some (f j)) (s1 : c1.slots.size = n1) (h1 : ∀ j, j < n1 → c1.slots[j]? = some (g j)) (hs : sp + n ≤ n0) (hd : dp + n ≤ n1) :
    (c1.storeRun dp (c0.stretch sp n)).cls = c1.cls ∧ (c1.storeRun dp (c0.stretch sp n)).vm = c1.vm ∧ (c1.storeRun dp (c0.stretch sp n)).slots.size = n1 ∧ ∀ j, j < n1 → (c1.storeRun dp (c0.stretch sp n)).slots[j]? = some (va_cpy f g sp dp n j) := by
  obtain ⟨a1, a2, a3, -, -⟩ := Cell.storePairs_facts c1 dp (c0.stretch sp n).zipIdx
  have hlen : (c0.stretch sp n).length = n := by simp [Cell.stretch]
  refine ⟨a1, a2, a3.trans s1, fun j hj => ?_⟩
  have e := c1.storePairs_get dp (c0.stretch sp n) 0 j (by rw [hlen]; omega)
  have e' : (c1.storeRun dp (c0.stretch sp n)).slots[j]? = _ := e
  rw [e', hlen, Nat.add_zero]
  unfold va_cpy
  by_cases hj2 : dp ≤ j ∧ j < dp + n
  · rw [if_pos hj2, if_pos hj2]
    unfold Cell.stretch
    rw [List.getElem?_map, List.getElem?_range (by omega)]
    simp only [Option.map_some]
    rw [Array.getD_eq_getD_getElem?, h0 _ (by omega)]
    rfl
  · rw [if_neg hj2, if_neg hj2, h1 j hj]
theorem znn (z : Int32) (hz : ¬ z < 0) : z.toInt = (z.toNatClampNeg : Int) := by
  have hz0 : (0 : Int) ≤ z.toInt := by
    have := Int32.not_lt.mp hz
    simpa using Int32.le_iff_toInt_le.mp this
  show z.toInt = ((z.toInt.toNat : Nat) : Int)
  omega
theorem zkind {g : zG} {s : State} (hA : zAmb g s) {k : Nat} (hk : k < 7) : ∃ (kA : Class) (cm : ClassId), s.vm.classes[g.2.1 k]? = some kA ∧ kA.kind = .array cm (zTy k) := by
  obtain ⟨-, k0, hk0, cm0, hkk0⟩ := (hA.1.2 k _ (zty_get g hk)).1 0 (fun _ => .null)
  exact ⟨k0, cm0, hk0, hkk0⟩
/-- an element that may go into Object[]: null, or an object known -/
def zEl (h : zH) (v : Value) : Prop := v = .null ∨ ∃ (y ci : Nat) (fs : List Value) (r : vw_C), v = .ref y ∧ h y = some (.inr (ci, fs)) ∧ zcl[ci]? = some r ∧ (r.1, "java/lang/Object") ∈ zCa
theorem zEl.new {h : zH} {v : Value} {a : Nat} {e : zE} (he : zEl h v) (hn : h a = none) : zEl (zup h a e) v := by
  rcases he with q | ⟨y, ci, fs, r, h1, h2, h3, h4⟩
  · exact Or.inl q
  · exact Or.inr ⟨y, ci, fs, r, h1, zLe.new hn _ _ h2, h3, h4⟩
theorem zEl.le {h h' : zH} {v : Value} (he : zEl h v) (hl : zLe h h') : zEl h' v := by
  rcases he with q | ⟨y, ci, fs, r, h1, h2, h3, h4⟩
  · exact Or.inl q
  · exact Or.inr ⟨y, ci, fs, r, h1, hl _ _ h2, h3, h4⟩
/-- a list's own cell is no element -/
theorem zEl.put {h : zH} {v : Value} {b : Nat} {e : zE} {fs0 : List Value} (he : zEl h v) (hb : h b = some (.inr (8, fs0))) (hno : ("java/util/ArrayList", "java/lang/Object") ∉ zCa) : zEl (zup h b e) v := by
  rcases he with q | ⟨y, ci, fs, r, h1, h2, h3, h4⟩
  · exact Or.inl q
  · refine Or.inr ⟨y, ci, fs, r, h1, ?_, h3, h4⟩
    rw [zup_n (fun q => ?_)]
    · exact h2
    · rw [q, hb] at h2
      obtain ⟨rfl, -⟩ := Prod.mk.inj (Sum.inr.inj (Option.some.inj h2))
      cases h3
      exact hno h4
section Z4
variable {Z : zZ} {cc : ByteArray} {ret : Option FieldType} {own : String} {hh : List (Nat × Nat × Nat × Nat)} {fr lo : Nat}
variable {h : zH} {cb sb pc : Nat} {L : List (Option Value)} {st rest : List Value} {post : Option Value → zH → Prop} {px : String → zH → Prop}
/-- System.arraycopy: bytes (kind 4) or references (kind 5) -/
theorem r_copy (hC : zC Z cc ret own hh fr lo) (kd : Nat) {index a0 a n0 n1 : Nat} {f g : Nat → Value} {sp dp n : Nat} (hkd : kd = 4 ∨ kd = 5) (q1 : Cond.methodLink own index arraycopyName ∈ lw_all) (he0 : h a0 = some (.inl (kd, n0, f))) (he : h a = some (.inl (kd, n1, g))) (ha : zA Z.1 a)
    (b1 : sp + n ≤ n0) (b2 : dp + n ≤ n1) (b3 : n0 < 2 ^ 31) (b4 : n1 < 2 ^ 31) (hel : ∀ i, i < n → (kd = 4 → fits .byte (f (sp + i)) = true ∧ ∃ x, f (sp + i) = .int x) ∧ (kd = 5 → zEl h (f (sp + i)))) (hf : 1 ≤ fr) (hl : 60 ≤ lo) (hst : (rest.map fun v => v.category).sum ≤ 8) (d : decode cc pc = .ok (.invokestatic index, 3))
    (k : zW Z (zup h a (.inl (kd, n1, va_cpy f g sp dp n))) cb sb (pc + 3) L rest) : zW Z h cb sb pc L (.int (nI n) :: .int (nI dp) :: .ref a :: .int (nI sp) :: .ref a0 :: rest) := by
  intro H locs cells slots ls ok hcb hsb hls
  have hts := hC.2.2.2.2.2.1
  have hA := hC.2.2.2.2.2.2.2.2.1
  have hrf := hC.2.2.2.2.2.2.2.2.2.2.2.1
  have hrl := hC.2.2.2.2.2.2.2.2.2.2.2.2.1
  obtain ⟨cs, p1, p2, p3, p4, hk7, p5, p6, p7⟩ := ok.1 a0 _ he0
  obtain ⟨cd, r1, r2, r3, r4, -, r5, r6, r7⟩ := ok.1 a _ he
  dsimp only at hk7 p5 p6 p7 r5 r6 r7
  obtain ⟨k0, cm0, hk0, hkk0⟩ := zkind hA hk7
  have es : (nI sp).toNatClampNeg = sp := nI_clamp (by omega)
  have ed : (nI dp).toNatClampNeg = dp := nI_clamp (by omega)
  have en : (nI n).toNatClampNeg = n := nI_clamp (by omega)
  have hs0 : ¬ nI sp < 0 := nI_pos (by omega)
  have hd0 : ¬ nI dp < 0 := nI_pos (by omega)
  have hn0 : ¬ nI n < 0 := nI_pos (by omega)
  intro T hT X
  have hty : ((refKind (zTy kd) != refKind (zTy kd)) || (!refKind (zTy kd) && zTy kd != zTy kd)) = false := by
    rcases hkd with rfl | rfl <;> rfl
  have hw : nativeFrameWords "java/lang/System" "arraycopy" 5 ≤ 20 := by decide
  obtain ⟨vm', X', step⟩ := X.arraycopy hC.1 hC.2.2.2.2.1 (hts _ q1) (hts _ q253) (hts _ q252) (hts _ q49) (src := a0) (dst := a) (cs := cs) (cd := cd) (srcPos := nI sp) (destPos := nI dp) (n := nI n) (by rw [hT]; exact p1) (by rw [hT]; exact r1)
    (vnS p3) (vnS r3) p2 r2 (by rw [p5]; exact hk0) (by rw [r5]; exact hk0) hkk0 hkk0 hty hs0 hd0 hn0
    (by rw [znn _ hs0, znn _ hn0, es, en, p6]; omega) (by rw [znn _ hd0, znn _ hn0, ed, en, r6]; omega)
    (fun vm₁ hal i hi => by
      rw [en] at hi
      have e : cs.slots.getD ((nI sp).toNatClampNeg + i) .null = f (sp + i) := by
        rw [es, Array.getD_eq_getD_getElem?, p7 _ (by omega)]
        rfl
      rw [e]
      rcases hkd with rfl | rfl
      · obtain ⟨g1, x, g2⟩ := (hel i hi).1 rfl
        refine ⟨g1, ?_⟩
        rw [g2]
        exact trivial
      · rcases (hel i hi).2 rfl with g1 | ⟨y, ci, fs, r, g1, g2, g3, g4⟩
        · rw [g1]; exact ⟨rfl, trivial⟩
        · rw [g1]
          obtain ⟨cV, v1, v2, v3, v4, r', v5, v6, v7⟩ := ok.1 y _ g2
          cases v5.symm.trans g3
          obtain ⟨kA, comp, z1, z2, z3, -⟩ := (hA.1.2 5 _ (zty_get Z.1 hk7)).2
          cases hk0.symm.trans z1
          cases hkk0.symm.trans z2
          have hcls := (hA.1.1 ci r g3).2
          obtain ⟨c0, t1, f1, f2, f3⟩ := Cond.castable_spec (va_Nw.use (A := za Z) rfl (hA.2.2.2.2.1 _ g4))
          cases hcls.1.symm.trans f1
          cases z3.symm.trans f2
          obtain ⟨kC, hkC, -⟩ := Vm.findClass_spec f1
          obtain ⟨kE, hkE, -⟩ := Vm.findClass_spec f2
          obtain ⟨kC', hkC', -⟩ := hal.2.2 _ _ hkC
          obtain ⟨kE', hkE', -⟩ := hal.2.2 _ _ hkE
          refine ⟨rfl, cV, (show T.heap[y]? = some cV by rw [hT]; exact v1), vnS v3, ⟨kC', by rw [v6]; exact hkC'⟩, ⟨kE', hkE'⟩, ?_⟩
          show vm₁.assignable _ _ = true
          rw [hal.assignable, v6]
          exact f3)
    (g := F0 (zm Z) pc ls (.int (nI n) :: .int (nI dp) :: .ref a :: .int (nI sp) :: .ref a0 :: rest)) rfl (hls.1.trans hC.2.2.2.1.symm) (rest := rest) rfl (by rw [hC.2.1]; exact d) (by rw [hrf]; exact hf) (by rw [hrl]; show 2 * 0 + _ + _ ≤ _; omega)
  have hcop := zcopied (sp := sp) (dp := dp) (n := n) p6 p7 r6 r7 b1 b2
  have e1 : copied cs cd (nI sp) (nI dp) (nI n) = cd.storeRun dp (cs.stretch sp n) := by
    show cd.storeRun _ (cs.stretch _ _) = _
    rw [es, ed, en]
  rw [e1] at X' step
  generalize cd.storeRun dp (cs.stretch sp n) = cN at hcop X' step
  have hlt : a < H.size := (Array.getElem?_eq_some_iff.mp r1).1
  have hheap : ((T.setVm vm').setCell a cN).heap = H.setIfInBounds a cN := by rw [← hT]; rfl
  have oq : ∀ q : Nat, q ≠ a → (H.setIfInBounds a cN)[q]? = H[q]? := fun q hq => by simp [Array.getElem?_setIfInBounds, Ne.symm hq]
  have hat : zat Z.1 a (.inl (kd, n1, va_cpy f g sp dp n)) (H.setIfInBounds a cN) := ⟨cN, by simp [Array.getElem?_setIfInBounds, hlt], by rw [hcop.2.1]; exact r2, by rw [hcop.2.1]; exact r3, fun hz => by rw [hcop.2.1]; exact r4 hz, hk7, by rw [hcop.1]; exact r5, hcop.2.2.1, hcop.2.2.2⟩
  have ok' : zOk Z (zup h a (.inl (kd, n1, va_cpy f g sp dp n))) (H.setIfInBounds a cN) (locs ++ ((cs.stretch (nI sp).toNatClampNeg (nI n).toNatClampNeg).zipIdx.map fun q => ⟨a, (nI dp).toNatClampNeg + q.2⟩)) := by
    refine ⟨ok.1.put oq hat, ok.2.1.put (by simp) oq ha, by simp; exact ok.2.2.1, fun q hq => ?_⟩
    rcases List.mem_append.mp hq with h1 | h1
    · exact ok.2.2.2 q h1
    · obtain ⟨z, -, hz⟩ := List.mem_map.mp h1
      rw [← hz]; exact ha
  obtain ⟨t, a1, b1⟩ := k _ _ cells slots ls ok' hcb hsb hls _ hheap X'
  exact ⟨t, step t a1, b1⟩
/-- getClass of an Object[] -/
theorem r_getC (hC : zC Z cc ret own hh fr lo) {index a n9 : Nat} {f : Nat → Value} (he : h a = some (.inl (5, n9, f))) (q1 : Cond.methodLink own index ⟨"java/lang/Object", "getClass", "()Ljava/lang/Class;"⟩ ∈ lw_all) (q2 : Cond.instanceMethod ⟨"java/lang/Object", "getClass", "()Ljava/lang/Class;"⟩ ∈ lw_all) (q3 : Cond.native ⟨"java/lang/Object", "getClass", "()Ljava/lang/Class;"⟩ ∈ lw_all)
    (q4 : Cond.selects "[Ljava/lang/Object;" ⟨"java/lang/Object", "getClass", "()Ljava/lang/Class;"⟩ ⟨"java/lang/Object", "getClass", "()Ljava/lang/Class;"⟩ ∈ lw_all) (hf : 1 ≤ fr) (hl : 30 ≤ lo) (hst : (rest.map fun v => v.category).sum ≤ 8) (d : decode cc pc = .ok (.invokevirtual index, 3))
    (k : zW Z h cb sb (pc + 3) L (.ref Z.1.2.2.2.2.2.2.1 :: rest)) : zW Z h cb sb pc L (.ref a :: rest) := by
  intro H locs cells slots ls ok hcb hsb hls
  have hts := hC.2.2.2.2.2.1
  have hA := hC.2.2.2.2.2.2.2.2.1
  obtain ⟨cell, p1, p2, p3, p4, hk7, p5, p6, p7⟩ := ok.1 a _ he
  dsimp only at p5
  obtain ⟨-, -, -, -, -, h4⟩ := (hA.1.2 5 _ (zty_get Z.1 hk7)).2
  exact va_getC hC.1 hC.2.1 (hC.2.2.2.1.trans hls.1.symm) hC.2.2.2.2.1 (hts _ q1) hA.2.2.2.2.2.2.2.2.2.1.use (hts _ q4) (hts _ q2) (hts _ q3) hA.2.2.2.2.2.2.2.2.1 ⟨cell, p1, p3, by rw [p5]; exact h4⟩ (by rw [hC.2.2.2.2.2.2.2.2.2.2.2.1]; exact hf) (by rw [hC.2.2.2.2.2.2.2.2.2.2.2.2.1]; omega) d (k H locs cells slots ls ok hcb hsb hls)
/-- the class object of Object[] -/
theorem r_ldcM (hC : zC Z cc ret own hh fr lo) {index : Nat} (q1 : Cond.classLink own index "[Ljava/lang/Object;" ∈ lw_all) (d : decode cc pc = .ok (.ldc index, 2)) (k : zW Z h cb sb (pc + 2) L (.ref Z.1.2.2.2.2.2.2.1 :: st)) : zW Z h cb sb pc L st :=
  zlift (fun _ _ _ _ _ w => va_ldcM hC.1 hC.2.1 hC.2.2.2.2.1 (hC.2.2.2.2.2.1 _ q1) hC.2.2.2.2.2.2.2.2.1.2.2.2.2.2.2.2.2.1 d w) k
/-- getstatic of a static of which only 'null or a reference' is known -/
theorem r_getsq (hC : zC Z cc ret own hh fr lo) {C n9 d9 : String} {index : Nat} (hZ : va_Zq C n9 d9 (zA Z.1) (zs Z) Z.1.2.2.1) (hlink : Cond.fieldLink own index C n9 d9 ∈ lw_all) (d : decode cc pc = .ok (.getstatic index, 3)) (k : ∀ v : Value, zisR v = true → zW Z h cb sb (pc + 3) L (v :: st)) : zW Z h cb sb pc L st := by
  rcases hZ with hZ | ⟨t, hZ⟩
  · exact r_gets hC hZ hlink d (k _ rfl)
  · exact r_gets hC hZ hlink d (k _ rfl)
/-- a handler -/
theorem r_catch (hC : zC Z cc ret own hh fr lo) {E name : String} (pre : List (Nat × Nat × Nat × Nat)) (x : Nat × Nat × Nat × Nat) (suf : List (Nat × Nat × Nat × Nat)) (hsplit : hh = pre ++ x :: suf)
    (hpass : ∀ z ∈ pre, z.2.2.2 ≠ 0 ∧ ∃ nm : String, Cond.classLink own z.2.2.2 nm ∈ lw_all ∧ (E, nm) ∈ zNo) (hx : ∀ y ∈ tableOf [x], covers y pc = true) (h0 : x.2.2.2 ≠ 0)
    (hlink : Cond.classLink own x.2.2.2 name ∈ lw_all) (hcast : (E, name) ∈ zCa) (kk : ∀ q : Nat, zW Z h cb sb x.2.2.1 L [.ref q]) : zWx Z h cb sb pc L st E := by
  intro H locs cells slots ls q ce ok hcb hsb hls hce hv hcl
  have hts := hC.2.2.2.2.2.1
  have hA := hC.2.2.2.2.2.2.2.2.1
  obtain ⟨x1, x2, x3, x4⟩ := x
  have ht : (zc Z).exceptionTable.toList = tableOf pre ++ ⟨x1, x2, x3, x4⟩ :: tableOf suf := by
    rw [hC.2.2.2.2.2.2.2.2.2.2.1, hsplit]
    simp [tableOf]
  refine vx_catch (own := own) (name := name) (E := E) hC.2.2.2.2.1 (tableOf pre) ⟨x1, x2, x3, x4⟩ (tableOf suf) ht (fun z hz => ?_) (hx _ (by simp [tableOf])) h0 (hts _ hlink) (va_Nw.use rfl (hA.2.2.2.2.1 _ hcast)) hce hv hcl (kk q H locs cells slots ls ok hcb hsb hls)
  obtain ⟨w, hw, e⟩ := List.mem_map.mp hz
  obtain ⟨z0, nm, z1, z2⟩ := hpass w hw
  subst e
  exact Or.inr ⟨z0, nm, hts _ z1, hA.2.2.2.2.2.1 _ z2⟩
/-- throw new X() -/
theorem r_throw0 (hC : zC Z cc ret own [] fr lo) (hE : zEnd Z post px) {cls : String} {ik ic : Nat} (hcls : Bundle.fit cls = true) (hk : Cond.classLink own ik cls ∈ lw_all) (hini : Cond.initialized cls ∈ lw_all)
    (hat : ∀ w ∈ vx_at0 own ic cls ["java/lang/RuntimeException", "java/lang/Exception"], w ∈ lw_all ∨ (∃ q ∈ zDe, w = .declares q) ∨ ∃ q ∈ zCa, w = .castable q.1 q.2)
    (d0 : decode cc pc = .ok (.new ik, 3)) (d3 : decode cc (pc + 3) = .ok (.dup, 1)) (d4 : decode cc (pc + 4) = .ok (.invokespecial ic, 3)) (d7 : decode cc (pc + 7) = .ok (.athrow, 1)) (hf : 6 ≤ fr) (hlo : 89 ≤ lo) (h1 : 1 ≤ cb) (h2 : 6 ≤ sb) (hq : px cls h) : zW Z h cb sb pc L [] := by
  intro H locs cells slots ls ok hcb hsb hls
  have hts := hC.2.2.2.2.2.1
  have hA := hC.2.2.2.2.2.2.2.2.1
  have hO := hC.2.2.2.2.2.2.2.2.2.1
  have hrf := hC.2.2.2.2.2.2.2.2.2.2.2.1
  have hrl := hC.2.2.2.2.2.2.2.2.2.2.2.2.1
  have hrc := hC.2.2.2.2.2.2.2.2.2.2.2.2.2.1
  have hrs := hC.2.2.2.2.2.2.2.2.2.2.2.2.2.2
  have hS : va_S (zA Z.1) (zs Z).heap H locs := by
    refine ⟨ok.2.2.1, fun q hq1 hq2 => ?_, ok.2.2.2⟩
    have h3 : q < zB Z.1 := Nat.not_le.mp hq2
    rw [ok.2.1.2 q h3, hO.2 q h3]
  have hU : vx_Zq Bundle.tN "UNASSIGNED_STACK" Bundle.steD (zA Z.1) (zs Z) (zs Z).heap := hA.2.2.2.2.2.2.2.2.2.2.2.2.1.kept (fun a ha _ => hO.2 a ha)
  have hN : vx_Zq Bundle.tN "SUPPRESSED_SENTINEL" Bundle.listD (zA Z.1) (zs Z) (zs Z).heap := hA.2.2.2.2.2.2.2.2.2.2.2.2.2.1.kept (fun a ha _ => hO.2 a ha)
  unfold zw
  rw [show Z.2.2.2.2.2 = _ from hE]
  refine vx_throw0 hC.1 hC.2.1 hC.2.2.2.2.2.2.2.1 (A := zA Z.1) (names := ["java/lang/RuntimeException", "java/lang/Exception"]) hC.2.2.2.2.1 hcls (by decide) (hts _ hk) (hts _ hini) (fun w hw => ?_) (fun w hw => ?_) hU hN hS (hls.1.trans hC.2.2.2.1.symm) d0 d3 d4 d7 (fun x hx => ?_) (by rw [hrf]; show 2 + 3 < _; omega) (by rw [hrl]; show 0 + (13 * (2 + 1) + 42) ≤ _; omega) (by rw [hrc]; omega) (by rw [hrs]; omega) hC.2.2.2.2.2.2.1 (fun t hal hz hq2 => ?_) ok.2.2.2 (by omega) (by omega)
  · rcases hat w hw with h9 | ⟨q, hq9, rfl⟩ | ⟨q, hq9, rfl⟩
    · exact hts _ h9
    · exact va_Nw.use rfl (hA.2.2.2.1 _ hq9)
    · exact va_Nw.use rfl (hA.2.2.2.2.1 _ hq9)
  · have good : ∀ w ∈ lw_all, vx_ot w = true := fun w h9 => by simp [vx_ot, (List.mem_filter.mp h9).2]
    rcases List.mem_cons.mp hw with rfl | hw
    · exact good _ hk
    · rcases List.mem_cons.mp hw with rfl | hw
      · exact good _ hini
      · rcases hat w hw with h9 | ⟨q, hq9, rfl⟩ | ⟨q, hq9, rfl⟩
        · exact good _ h9
        · rfl
        · rfl
  · rw [hC.2.2.2.2.2.2.2.2.2.2.1] at hx
    cases hx
  · refine ⟨h, hq, fun a e he => (ok.1 a e he).kept (hq2 a (ok.1 a e he).lt), ok.2.1.grow hz hq2, Nat.le_trans ok.2.2.1 hz⟩
end Z4
