/-! JDK 0: the statics, Strings' words, overriding calls -/
set_option maxRecDepth 100000
theorem in_J2b : ∀ w ∈ u_ws RJ2 TJ2 2, w ∈ lw_all := by
  intro w hw
  obtain ⟨k, hk, e⟩ := List.mem_map.mp hw
  exact in_J2 w (List.mem_map.mpr ⟨k, List.mem_range.mpr (by have := List.mem_range.mp hk; omega), e⟩)
theorem nmJ2b : ∀ a, a < 2 → ∀ b, b < 2 → a ≠ b → (TJ2 a).2.1 ≠ (TJ2 b).2.1 := fun a ha b hb => nmJ2 a (by omega) b (by omega)
theorem tyJ2b_ok : ∀ k, k < 2 → parseFieldDescriptor (TJ2 k).2.2.1 = some (tyJ2 k) := fun k hk => tyJ2_ok k (by omega)
theorem zcatR {v : Value} (h : zisR v = true) : v.category = 1 := by cases v <;> first | rfl | cases h
section ZJ0
variable {Z : zZ} {cc : ByteArray} {ret : Option FieldType} {own : String} {hh : List (Nat × Nat × Nat × Nat)} {fr lo : Nat}
variable {h : zH} {cb sb pc : Nat} {L : List (Option Value)} {st rest : List Value}
theorem zk_amb (hC : zC Z cc ret own hh fr lo) : zAmb Z.1 (zs Z) := hC.2.2.2.2.2.2.2.2.1
theorem zk_AO (hC : zC Z cc ret own hh fr lo) : va_AO "java/lang/Object" (zs Z) := (zk_amb hC).2.2.2.2.2.2.1
theorem zk_AA (hC : zC Z cc ret own hh fr lo) : va_AO "AllotmentLedger$Account" (zs Z) := (zk_amb hC).2.2.2.2.2.2.2.1
theorem zk_cs (hC : zC Z cc ret own hh fr lo) : va_Z "java/lang/String" "COMPACT_STRINGS" "Z" (.int 1) (zA Z.1) (zs Z) Z.1.2.2.1 := (zk_amb hC).2.2.2.2.2.2.2.2.2.2.1
theorem zk_de (hC : zC Z cc ret own hh fr lo) : va_Z "java/util/ArrayList" "DEFAULTCAPACITY_EMPTY_ELEMENTDATA" "[Ljava/lang/Object;" (.ref Z.1.2.2.2.2.2.1) (zA Z.1) (zs Z) Z.1.2.2.1 := (zk_amb hC).2.2.2.2.2.2.2.2.2.2.2.1
theorem zk_l54 (hC : zC Z cc ret own hh fr lo) : vk_R "AllotmentLedger" 54 "" Z.1.2.2.2.1 (zs Z) := (zk_amb hC).2.2.2.2.2.2.2.2.2.2.2.2.2.2.1
theorem zk_l151 (hC : zC Z cc ret own hh fr lo) : vk_R "java/lang/StringLatin1" 151 "" Z.1.2.2.2.1 (zs Z) := (zk_amb hC).2.2.2.2.2.2.2.2.2.2.2.2.2.2.2.1
theorem zk_si (hC : zC Z cc ret own hh fr lo) : va_Zq "jdk/internal/util/Preconditions" "SIOOBE_FORMATTER" "Ljava/util/function/BiFunction;" (zA Z.1) (zs Z) Z.1.2.2.1 := (zk_amb hC).2.2.2.2.2.2.2.2.2.2.2.2.2.2.2.2.1
theorem zk_bo (hC : zC Z cc ret own hh fr lo) : va_Z "jdk/internal/misc/Unsafe" "ARRAY_BYTE_BASE_OFFSET" "I" (.int 16) (zA Z.1) (zs Z) Z.1.2.2.1 := (zk_amb hC).2.2.2.2.2.2.2.2.2.2.2.2.2.2.2.2.2.1
theorem zk_bs (hC : zC Z cc ret own hh fr lo) : va_Z "jdk/internal/util/ArraysSupport" "LOG2_ARRAY_BYTE_INDEX_SCALE" "I" (.int 0) (zA Z.1) (zs Z) Z.1.2.2.1 := (zk_amb hC).2.2.2.2.2.2.2.2.2.2.2.2.2.2.2.2.2.2.1
/-- invokevirtual of an overridden method -/
theorem r_callO (hC : zC Z cc ret own hh fr lo) {y x : MethodName} {owner : String} {bytes b0 : ByteArray} {maxL m0 index n fr' lo' mc ms : Nat} {ry r0 : Option FieldType} {As : List Value} {post : Option Value → zH → Prop} {px : String → zH → Prop} {ci b : Nat} {fs : List Value} {r : vw_C}
    (hM : zM Z.1 (zl Z) y (ws_ y bytes maxL ry) fr' lo' mc ms (.ref b :: As) h post px) (he : h b = some (.inr (ci, fs))) (hc : zcl[ci]? = some r)
    (q0 : Cond.code ⟨owner, x.name, x.desc⟩ b0 m0 r0 ∈ lw_all) (q1 : Cond.methodLink own index x ∈ lw_all) (q6 : Cond.sameMethod x.cls owner x.name x.desc ∈ lw_all) (q7 : Cond.instanceMethod ⟨owner, x.name, x.desc⟩ ∈ lw_all) (q2 : Cond.instanceMethod y ∈ lw_all) (q3 : Cond.selects r.1 x y ∈ lw_all) (q4 : Cond.initialized y.cls ∈ lw_all) (q5 : Cond.code y bytes maxL ry ∈ lw_all)
    (hd : owner ≠ "java/lang/invoke/MethodHandle" ∧ owner ≠ "java/lang/invoke/VarHandle" ∧ (parseMethodDescriptor x.desc).map (fun d => d.parameters.length) = some n) (hn : As.length = n) (hfr : fr' + 1 ≤ fr) (hlo : 8 + (maxL + 11) + lo' ≤ lo) (hst : st = As.reverse ++ .ref b :: rest) (hsum : (rest.map fun v => v.category).sum ≤ 8)
    {cb' sb' : Nat} (h1 : cb' + mc ≤ cb) (h2 : sb' + ms ≤ sb) (d : decode cc pc = .ok (.invokevirtual index, 3)) (kx : ∀ E h', px E h' → zWx Z h' cb' sb' pc L rest E) (kk : ∀ v h', post v h' → zW Z h' cb' sb' (pc + 3) L (v.toList ++ rest)) : zW Z h cb sb pc L st := by
  intro H locs cells slots ls ok hcb hsb hls
  have hrc := hC.2.2.2.2.2.2.2.2.2.2.2.2.2.1
  have hrs := hC.2.2.2.2.2.2.2.2.2.2.2.2.2.2
  have hts := hC.2.2.2.2.2.1
  have hg : GoodIn lw_all (va_wsO own index r.1 owner x y (ws_ y bytes maxL ry)) := by
    refine lw_app ?_ (lw_meth q5)
    intro w hw
    simp only [List.mem_cons, List.not_mem_nil, or_false] at hw
    rcases hw with e | e | e | e | e | e <;> rw [e] <;> assumption
  refine zgo (ws := []) ok hcb hsb hls h1 h2 (vx_runU (zfix hC) hM (va_cwO n hts hg rfl rfl rfl q0 hd ⟨by rw [hC.2.2.2.2.2.2.2.2.2.2.2.1]; exact hfr, by rw [hC.2.2.2.2.2.2.2.2.2.2.2.2.1]; exact hlo⟩) (zpreV hC ok he hc) rfl hn hls.1 hst (lv_room hsum) d ⟨by rw [hrc]; omega, by rw [hrs]; omega⟩) kx kk
/-- invokevirtual of a method with a table of handlers -/
theorem r_callVX (hC : zC Z cc ret own hh fr lo) {y : MethodName} {bytes : ByteArray} {maxL index n fr' lo' mc ms : Nat} {ry : Option FieldType} {As : List Value} {post : Option Value → zH → Prop} {px : String → zH → Prop} {ci b : Nat} {fs : List Value} {r : vw_C} {hy : List (Nat × Nat × Nat × Nat)}
    (hM : zM Z.1 (zl Z) y (wsW_ y bytes maxL ry hy) fr' lo' mc ms (.ref b :: As) h post px) (he : h b = some (.inr (ci, fs))) (hc : zcl[ci]? = some r) (hrc : y.cls = r.1)
    (q1 : Cond.methodLink own index y ∈ lw_all) (q2 : Cond.instanceMethod y ∈ lw_all) (q3 : Cond.selects r.1 y y ∈ lw_all) (q4 : Cond.initialized r.1 ∈ lw_all) (q5 : Cond.codeWith y bytes maxL ry hy ∈ lw_all)
    (hd : y.cls ≠ "java/lang/invoke/MethodHandle" ∧ y.cls ≠ "java/lang/invoke/VarHandle" ∧ (parseMethodDescriptor y.desc).map (fun d => d.parameters.length) = some n) (hn : As.length = n) (hfr : fr' + 1 ≤ fr) (hlo : 8 + (maxL + 11) + lo' ≤ lo) (hst : st = As.reverse ++ .ref b :: rest) (hsum : (rest.map fun v => v.category).sum ≤ 8)
    {cb' sb' : Nat} (h1 : cb' + mc ≤ cb) (h2 : sb' + ms ≤ sb) (d : decode cc pc = .ok (.invokevirtual index, 3)) (kx : ∀ E h', px E h' → zWx Z h' cb' sb' pc L rest E) (kk : ∀ v h', post v h' → zW Z h' cb' sb' (pc + 3) L (v.toList ++ rest)) : zW Z h cb sb pc L st := by
  intro H locs cells slots ls ok hcb hsb hls
  have hrc' := hC.2.2.2.2.2.2.2.2.2.2.2.2.2.1
  have hrs := hC.2.2.2.2.2.2.2.2.2.2.2.2.2.2
  have hts := hC.2.2.2.2.2.1
  refine zgo (ws := []) ok hcb hsb hls h1 h2 (vx_runVX (zfix hC) hM (vx_cwVW n hts (lw_VW q1 q2 q3 q4 q5) rfl rfl rfl ⟨hrc, hd⟩ ⟨by rw [hC.2.2.2.2.2.2.2.2.2.2.2.1]; exact hfr, by rw [hC.2.2.2.2.2.2.2.2.2.2.2.2.1]; exact hlo⟩) (zpreV hC ok he hc) rfl hn hls.1 hst (lv_room hsum) d ⟨by rw [hrc']; omega, by rw [hrs]; omega⟩) kx kk
/-- invokevirtual of a private method of the builder's parent -/
theorem r_callP (hC : zC Z cc ret own hh fr lo) {y : MethodName} {bytes : ByteArray} {maxL index n fr' lo' mc ms : Nat} {ry : Option FieldType} {As : List Value} {post : Option Value → zH → Prop} {px : String → zH → Prop} {b : Nat} {fs : List Value}
    (hM : zM Z.1 (zl Z) y (ws_ y bytes maxL ry) fr' lo' mc ms (.ref b :: As) h post px) (he : h b = some (.inr (6, fs)))
    (q1 : Cond.methodLink own index y ∈ lw_all) (q2 : Cond.instanceMethod y ∈ lw_all) (q3 : y ∈ zPr) (q4 : Cond.initialized y.cls ∈ lw_all) (q5 : Cond.code y bytes maxL ry ∈ lw_all)
    (hd : y.cls ≠ "java/lang/invoke/MethodHandle" ∧ y.cls ≠ "java/lang/invoke/VarHandle" ∧ (parseMethodDescriptor y.desc).map (fun d => d.parameters.length) = some n) (hn : As.length = n) (hfr : fr' + 1 ≤ fr) (hlo : 8 + (maxL + 11) + lo' ≤ lo) (hst : st = As.reverse ++ .ref b :: rest) (hsum : (rest.map fun v => v.category).sum ≤ 8)
    {cb' sb' : Nat} (h1 : cb' + mc ≤ cb) (h2 : sb' + ms ≤ sb) (d : decode cc pc = .ok (.invokevirtual index, 3)) (kx : ∀ E h', px E h' → zWx Z h' cb' sb' pc L rest E) (kk : ∀ v h', post v h' → zW Z h' cb' sb' (pc + 3) L (v.toList ++ rest)) : zW Z h cb sb pc L st := by
  intro H locs cells slots ls ok hcb hsb hls
  have hrc := hC.2.2.2.2.2.2.2.2.2.2.2.2.2.1
  have hrs := hC.2.2.2.2.2.2.2.2.2.2.2.2.2.2
  have hts := hC.2.2.2.2.2.1
  have hsel : (Cond.selects RJ1 y y).before (za Z) (zs Z) = true := va_Nw.use rfl ((zk_amb hC).2.2.2.2.2.2.2.2.2.2.2.2.2.2.2.2.2.2.2.2.2.2.2.2 y q3)
  refine zgo (ws := []) ok hcb hsb hls h1 h2 (vx_runV (zfix hC) hM ⟨zcb hC q1 q4 q5 hd hfr hlo, hts _ q2, hsel⟩ (zpreV hC ok he (r := (RJ1, TJ1, 4)) rfl) rfl hn hls.1 hst (lv_room hsum) d ⟨by rw [hrc]; omega, by rw [hrs]; omega⟩) kx kk
/-- how the word of a private method is had, from another method's of its class -/
theorem zsel_priv {y z : MethodName} {s : State} {args : Array Value} {C : String} {n : Nat} (hy : y.cls ≠ "java/lang/invoke/MethodHandle" ∧ y.cls ≠ "java/lang/invoke/VarHandle")
    (hins : (Cond.instantiable C n).before args s = true) (hpriv : (Cond.privateMethod y).before args s = true) (hinst : (Cond.instanceMethod y).before args s = true) (hz : z.cls = y.cls) (hsz : (Cond.selects C z z).before args s = true) :
    (Cond.selects C y y).before args s = true := by
  obtain ⟨c, k, hc, hk, -, hniab, -, -⟩ := Cond.instantiable_spec hins
  obtain ⟨mk, methM, hnamed, hmethM, -, -⟩ := Cond.instanceMethod_spec hinst
  have hfound : s.methodFound? y.cls y.name y.desc = some mk := State.methodFound?_of_named hnamed hy
  have hsel : selectMethod {} s.vm c mk = .method mk := selectMethod_private hmethM (Cond.privateMethod_at hpriv mk methM hnamed hmethM)
  obtain ⟨c2, r2, m2, -, -, hm2, -, k2, hk2, hni⟩ := Cond.selects_spec hsz
  have e1 := findClass_of_methodNamed hnamed
  have e2 := findClass_of_methodNamed hm2
  rw [hz] at e2
  have hcls : m2.cls = mk.cls := Option.some.inj (e2.symm.trans e1)
  rw [hcls] at hk2
  simp only [Cond.before, Cond.holds, Cond.value, hc, hfound, hnamed, hsel, hk2]
  simp; exact hni
/-- getfield of an inherited field under another name -/
theorem r_getS (hC : zC Z cc ret own hh fr lo) {C : String} {T : u_T} {N ci index a : Nat} {fs : List Value} {v : Value} {ref rf nm ds : String} (kf : Nat) (hin : ∀ w ∈ u_ws C T N, w ∈ lw_all) (hc : zcl[ci]? = some (C, T, N)) (he : h a = some (.inr (ci, fs))) (hk : kf < N) (hT : (T kf).1 = ref ∧ (T kf).2.1 = nm ∧ (T kf).2.2.1 = ds) (hlink : Cond.fieldLink own index rf nm ds ∈ lw_all) (hsame : Cond.sameField rf ref nm ds ∈ lw_all) (hv : fs[kf]? = some v) (d : decode cc pc = .ok (.getfield index, 3)) (k : zW Z h cb sb (pc + 3) L (v :: rest)) : zW Z h cb sb pc L (.ref a :: rest) := by
  obtain ⟨rfl, rfl, rfl⟩ := hT
  intro H locs cells slots ls ok hcb hsb hls
  obtain ⟨cell, q1, q2, q2', q3, r, h1, q4, q5⟩ := ok.1 a _ he
  have hr : r = (C, T, N) := Option.some.inj (h1.symm.trans hc)
  subst hr
  have hts := hC.2.2.2.2.2.1
  obtain ⟨hS, hfc, kC, hkC, hkind⟩ := hC.2.2.2.2.2.2.2.2.1.1.1 ci _ hc
  obtain ⟨cf, kf', fi, f, hi, hsl⟩ := hS kf hk
  have hst := (u_facts hfc hkC (u_lays hts hin hk) hi).1
  refine W.getf hC.1 hC.2.1 hC.2.2.2.2.1 (hts _ hlink) (u_same (hts _ hsame) _ hi) hst q1 q2 (v := v) ?_ rfl rfl d (k H locs cells slots ls ok hcb hsb hls)
  rw [hsl, q5 kf hk]
  simp [vp_V, hv]
/-- putfield of an inherited field under another name -/
theorem r_putS (hC : zC Z cc ret own hh fr lo) {C : String} {T : u_T} {N ci index a : Nat} {fs fs' : List Value} {v : Value} {ref rf nm ds : String} {ty : FieldType} (kf : Nat) (hin : ∀ w ∈ u_ws C T N, w ∈ lw_all) (ty0 : Nat → FieldType) (hty : ∀ k, k < N → parseFieldDescriptor (T k).2.2.1 = some (ty0 k)) (hnm : ∀ a, a < N → ∀ b, b < N → a ≠ b → (T a).2.1 ≠ (T b).2.1) (hc : zcl[ci]? = some (C, T, N)) (ha : zA Z.1 a) (he : h a = some (.inr (ci, fs))) (hk : kf < N) (hT : (T kf).1 = ref ∧ (T kf).2.1 = nm ∧ (T kf).2.2.1 = ds ∧ (T kf).2.2.2 = false) (hlink : Cond.fieldLink own index rf nm ds ∈ lw_all) (hsame : Cond.sameField rf ref nm ds ∈ lw_all) (hd : parseFieldDescriptor ds = some ty) (hn : narrow ty v = v) (hfit : fits ty v = true) (hl : kf < fs.length) (hs : fs.set kf v = fs') (d : decode cc pc = .ok (.putfield index, 3))
    (k : zW Z (zup h a (.inr (ci, fs'))) cb sb (pc + 3) L rest) : zW Z h cb sb pc L (v :: .ref a :: rest) := by
  obtain ⟨rfl, rfl, rfl, hfin⟩ := hT
  subst hs
  intro H locs cells slots ls ok hcb hsb hls
  obtain ⟨cell, q1, q2, q2', q3, r, h1, q4, q5⟩ := ok.1 a _ he
  have hr : r = (C, T, N) := Option.some.inj (h1.symm.trans hc)
  subst hr
  have hts := hC.2.2.2.2.2.1
  have hA := hC.2.2.2.2.2.2.2.2.1
  obtain ⟨hS, hfc, kC, hkC, hkind⟩ := hA.1.1 ci _ hc
  obtain ⟨cf, kf', fi, f, hi, hsl⟩ := hS kf hk
  have hst := (u_facts hfc hkC (u_lays hts hin hk) hi).1
  have hlay := hts _ (hin _ (u_in_lay hk))
  unfold u_lay at hlay
  rw [if_neg (by rw [hfin]; exact Bool.false_ne_true)] at hlay
  have h6 := u_store hfc hkC hkind hlay hi hd hn hfit
  refine W.putK hC.1 hC.2.1 (f := f) ⟨hC.2.2.2.2.1, hts _ hlink, ⟨_, _, _, u_same (hts _ hsame) _ hi⟩, hst⟩ (by rw [q4]; exact h6) q1 (q3 ha) (by rw [hsl]; exact k2_hasslot (q5 kf hk)) rfl rfl d fun H' e1 e2 e3 => ?_
  rw [hsl] at e1 ⊢
  exact k H' _ cells slots ls (ok.put e2 e3 ha (zput_at (own := "") hts hin ty0 hty hnm hA.1 hc hk hl e1 q2 q2' (q3 ha) q4 q5)) hcb hsb hls
theorem r_max (hC : zC Z cc ret own hh fr lo) {index : Nat} {x y : Int32} (q1 : Cond.methodLink own index Lib.Math.max.name ∈ lw_all) (q2 : Cond.static Lib.Math.max.name ∈ lw_all) (q3 : Cond.initialized "java/lang/Math" ∈ lw_all) (q4 : Cond.code Lib.Math.max.name Lib.Math.max.code 2 (some .int) ∈ lw_all) (hf : 1 ≤ fr) (hl : 21 ≤ lo) (hst : (rest.map fun v => v.category).sum ≤ 8) (d : decode cc pc = .ok (.invokestatic index, 3))
    (k : zW Z h cb sb (pc + 3) L (.int (if x < y then y else x) :: rest)) : zW Z h cb sb pc L (.int y :: .int x :: rest) := by
  intro H locs cells slots ls ok hcb hsb hls
  have hts := hC.2.2.2.2.2.1
  exact va_mmax hC.1 hC.2.1 (hC.2.2.2.1.trans hls.1.symm) hC.2.2.2.2.1 (hts _ q1) (hts _ q2) (hts _ q3) (hts _ q4) (by rw [hC.2.2.2.2.2.2.2.2.2.2.2.1]; exact hf) (by rw [hC.2.2.2.2.2.2.2.2.2.2.2.2.1]; omega) (by rw [hC.2.2.2.2.2.2.2.2.2.2.2.2.2.1]; omega) (by rw [hC.2.2.2.2.2.2.2.2.2.2.2.2.2.2]; omega) d (k H locs cells slots ls ok hcb hsb hls)
theorem r_min (hC : zC Z cc ret own hh fr lo) {index : Nat} {x y : Int32} (q1 : Cond.methodLink own index Lib.Math.min.name ∈ lw_all) (q2 : Cond.static Lib.Math.min.name ∈ lw_all) (q3 : Cond.initialized "java/lang/Math" ∈ lw_all) (q4 : Cond.code Lib.Math.min.name Lib.Math.min.code 2 (some .int) ∈ lw_all) (hf : 1 ≤ fr) (hl : 21 ≤ lo) (hst : (rest.map fun v => v.category).sum ≤ 8) (d : decode cc pc = .ok (.invokestatic index, 3))
    (k : zW Z h cb sb (pc + 3) L (.int (if y < x then y else x) :: rest)) : zW Z h cb sb pc L (.int y :: .int x :: rest) := by
  intro H locs cells slots ls ok hcb hsb hls
  have hts := hC.2.2.2.2.2.1
  exact va_mmin hC.1 hC.2.1 (hC.2.2.2.1.trans hls.1.symm) hC.2.2.2.2.1 (hts _ q1) (hts _ q2) (hts _ q3) (hts _ q4) (by rw [hC.2.2.2.2.2.2.2.2.2.2.2.1]; exact hf) (by rw [hC.2.2.2.2.2.2.2.2.2.2.2.2.1]; omega) (by rw [hC.2.2.2.2.2.2.2.2.2.2.2.2.2.1]; omega) (by rw [hC.2.2.2.2.2.2.2.2.2.2.2.2.2.2]; omega) d (k H locs cells slots ls ok hcb hsb hls)
theorem nI_lt0 {k : Nat} (hk : k < 2 ^ 31) : ¬ nI k < 0 := nI_pos hk
end ZJ0
/-- the greater, the lesser, as Math has them -/
def zmax (a b : Int32) : Int32 := if a < b then b else a
def zmin (a b : Int32) : Int32 := if b < a then b else a
theorem zmax_nI {a b : Nat} (ha : a < 2 ^ 31) (hb : b < 2 ^ 31) : (if nI a < nI b then nI b else nI a) = nI (if a < b then b else a) := by
  by_cases c : a < b
  · rw [if_pos ((nI_ltI ha hb).mpr c), if_pos c]
  · rw [if_neg (fun q => c ((nI_ltI ha hb).mp q)), if_neg c]
theorem zmin_nI {a b : Nat} (ha : a < 2 ^ 31) (hb : b < 2 ^ 31) : (if nI b < nI a then nI b else nI a) = nI (if b < a then b else a) := by
  by_cases c : b < a
  · rw [if_pos ((nI_ltI hb ha).mpr c), if_pos c]
  · rw [if_neg (fun q => c ((nI_ltI hb ha).mp q)), if_neg c]
