/-! CORE 3: contracts, calls, ends, throws -/
set_option maxRecDepth 100000
def zQ (g : zG) (post : Option Value → zH → Prop) : Array Value → State → Outcome → State → Prop := fun _ st o t => ∃ (v : Option Value) (h' : zH), o = .returned v ∧ post v h' ∧ zRp g h' t.heap ∧ zOld g t.heap ∧ st.heap.size ≤ t.heap.size
def zXc (g : zG) (px : String → zH → Prop) : String → State → State → Prop := fun E st t => ∃ h' : zH, px E h' ∧ zRp g h' t.heap ∧ zOld g t.heap ∧ st.heap.size ≤ t.heap.size
/-- a contract: from args as and a heap that h pictures, y answers by post or throws by px; at most mc new cells of ms slots -/
def zM (g : zG) (l : Launch) (y : MethodName) (ws : List Cond) (fr lo mc ms : Nat) (as : List Value) (h : zH) (post : Option Value → zH → Prop) (px : String → zH → Prop) : Prop :=
  vx_Met l y ws { frames := fr, cells := mc, slots := ms, locals := lo } (va_Pc as (fun U => zWd g h U)) (zQ g post) (zXc g px) mc ms (zA g)
def zEnd (Z : zZ) (post : Option Value → zH → Prop) (px : String → zH → Prop) : Prop := Z.2.2.2.2.2 = vx_MQ (zb Z) (zQ Z.1 post) (zXc Z.1 px) (za Z) (zs Z) Z.2.2.2.1 Z.2.2.2.2.1 (zA Z.1)
/-- no throw -/
def zNx : String → zH → Prop := fun _ _ => False
/-- a plain answer: value and heap known -/
def zRi (v : Value) (h1 : zH) : Option Value → zH → Prop := fun u h' => u = some v ∧ h' = h1
def zRv (h1 : zH) : Option Value → zH → Prop := fun u h' => u = none ∧ h' = h1
theorem zWd.same {g : zG} {h : zH} {s U : State} (hv : s.vm = U.vm) (hh : U.heap = s.heap) (w : zWd g h s) : zWd g h U := ⟨w.1.same hv, by rw [hh]; exact w.2.1, by rw [hh]; exact w.2.2⟩
theorem zblind (g : zG) (as : List Value) (h : zH) : FrameBlind (va_Pc as (fun U => zWd g h U)) := fun a U fr mk q => ⟨q.1, zWd.same (s := U) rfl rfl q.2⟩
theorem zM.le {g : zG} {l : Launch} {y : MethodName} {ws : List Cond} {fr lo mc ms : Nat} {as : List Value} {h : zH} {post post' : Option Value → zH → Prop} {px px' : String → zH → Prop} (hM : zM g l y ws fr lo mc ms as h post px) (h1 : ∀ v h', post v h' → post' v h') (h2 : ∀ E h', px E h' → px' E h') : zM g l y ws fr lo mc ms as h post' px' := by
  intro p e ha hc hk s m args below hf hfit hheap hP
  obtain ⟨k, o, q1, q2, q3, q4⟩ := hM p e ha hc hk s m args below hf hfit hheap hP
  refine ⟨k, o, q1, q2, q3, ?_⟩
  rcases q4 with ⟨⟨v, h', a1, a2, a3⟩, a4⟩ | ⟨q, a1, E, ce, L, ⟨h', b1, b2⟩, a3⟩
  · exact Or.inl ⟨⟨v, h', a1, h1 _ _ a2, a3⟩, a4⟩
  · exact Or.inr ⟨q, a1, E, ce, L, ⟨h', h2 _ _ b1, b2⟩, a3⟩
theorem zentry {as : List Value} {nL : Nat} (hcat : ∀ v ∈ as, v.category = 1) (hn : as.length ≤ nL) : lg_sl as = as.map Slot.val ∧ zLs ((lg_sl as ++ List.replicate (nL - (lg_sl as).length) Slot.unset).toArray) nL (as.map some ++ List.replicate (nL - as.length) none) := by
  have e1 : lg_sl as = as.map Slot.val := by
    clear hn
    induction as with
    | nil => rfl
    | cons v t ih =>
      have hv := hcat v List.mem_cons_self
      have h9 := ih (fun w hw => hcat w (List.mem_cons_of_mem _ hw))
      simp only [lg_sl, List.flatMap_cons, hv] at h9 ⊢
      rw [h9]
      rfl
  have e2 : ∀ (l : List Value) (i : Nat), (∀ v ∈ l, v.category = 1) → ∀ (k : Nat) (v : Value), l[k]? = some v → (i + k, v) ∈ lv_args i l := by
    intro l
    induction l with
    | nil => intro i _ k v h; simp at h
    | cons w t ih =>
      intro i hc k v h
      cases k with
      | zero =>
        rw [List.getElem?_cons_zero] at h
        cases h
        exact List.mem_cons_self
      | succ k =>
        rw [List.getElem?_cons_succ] at h
        have hw := hc w List.mem_cons_self
        have h9 := ih (i + 1) (fun u hu => hc u (List.mem_cons_of_mem _ hu)) k v h
        refine List.mem_cons_of_mem _ ?_
        rw [if_neg (by omega)]
        rw [show i + (k + 1) = i + 1 + k by omega]
        exact h9
  refine ⟨e1, ?_⟩
  have hl : (lg_sl as).length = as.length := by rw [e1, List.length_map]
  have h0 := lv_entry as (n := nL) (by rw [hl]; exact hn)
  refine ⟨h0.1, h0.2.1, by simp; omega, fun i v hi => ?_⟩
  by_cases hlt : i < as.length
  · rw [List.getElem?_append_left (by simpa using hlt), List.getElem?_map] at hi
    cases hx : as[i]? with
    | none => rw [hx] at hi; cases hi
    | some w =>
      rw [hx] at hi
      cases hi
      have h9 := h0.2.2 (0 + i, v) (e2 as 0 hcat i v hx)
      rw [Nat.zero_add] at h9
      exact ⟨h9, hcat v (List.mem_of_getElem? hx)⟩
  · rw [List.getElem?_append_right (by simpa using hlt)] at hi
    have := List.eq_of_mem_replicate (List.mem_of_getElem? hi)
    cases this
/-- a contract by a walk of its body -/
theorem zM.of {g : zG} {l : Launch} {y : MethodName} {cc : ByteArray} {nL fr lo mc ms : Nat} {ret : Option FieldType} {as : List Value} {h : zH} {post : Option Value → zH → Prop} {px : String → zH → Prop} (hy : plainName y.cls = true) (hl : l.stackTraces = false) (hcat : ∀ v ∈ as, v.category = 1) (hn : as.length ≤ nL)
    (body : ∀ Z : zZ, Z.1 = g → zl Z = l → zC Z cc ret y.cls [] fr lo → zEnd Z post px → (zt Z).name = y.name → zW Z h mc ms 0 (as.map some ++ List.replicate (nL - as.length) none) []) : zM g l y (ws_ y cc nL ret) fr lo mc ms as h post px := by
  refine vx_ofW (cc := cc) (maxL := nL) (ret := ret) hy rfl ?_
  intro p e s m args below meth c s₁ B hml hout hv
  obtain ⟨rfl, hW⟩ := hv
  have hts := atoms_spec (ws := ws_ y cc nL ret) B.pre
  have hts : ∀ w ∈ lw_all, w.before as.toArray s = true := fun w h => hts w (List.mem_cons_of_mem _ h)
  have hown : s.vm.findClass y.cls = some m.cls := findClass_of_methodNamed B.named
  have hnm : meth.name = y.name := (name_of_methodNamed B.named B.method).1
  have htb : c.exceptionTable.toList = tableOf [] := List.eq_nil_iff_forall_not_mem.mpr (fun x hx => hout x hx)
  have K := body (g, (p, l, e, (headSpec (ws_ y cc nL ret) { frames := fr, cells := mc, slots := ms, locals := lo }).room, s, m, as.toArray, below, meth, c), nL, mc, ms, vx_MQ below (zQ g post) (zXc g px) as.toArray s mc ms (zA g)) rfl rfl
    ⟨B.exec, B.bytes, B.returns, hml, hown, hts, B.notSynchronized, hl, hW.1, hW.2.2, htb, rfl, rfl, rfl, rfl⟩ rfl hnm
  rw [lg_entry_eq]
  exact K s.heap [] 0 0 _ ⟨hW.2.1, hW.2.2, Nat.le_refl _, fun z hz => nomatch hz⟩ (Nat.le_of_eq (Nat.zero_add mc)) (Nat.le_of_eq (Nat.zero_add ms)) (zentry hcat hn).2
/-- the same, of a method with a table of handlers -/
theorem zM.ofH {g : zG} {l : Launch} {y : MethodName} {cc : ByteArray} {nL fr lo mc ms : Nat} {ret : Option FieldType} {hh : List (Nat × Nat × Nat × Nat)} {as : List Value} {h : zH} {post : Option Value → zH → Prop} {px : String → zH → Prop} (hy : plainName y.cls = true) (hl : l.stackTraces = false) (hcat : ∀ v ∈ as, v.category = 1) (hn : as.length ≤ nL)
    (body : ∀ Z : zZ, Z.1 = g → zl Z = l → zC Z cc ret y.cls hh fr lo → zEnd Z post px → (zt Z).name = y.name → zW Z h mc ms 0 (as.map some ++ List.replicate (nL - as.length) none) []) : zM g l y (wsW_ y cc nL ret hh) fr lo mc ms as h post px := by
  refine vx_ofWH (cc := cc) (maxL := nL) (ret := ret) (hh := hh) hy rfl ?_
  intro p e s m args below meth c s₁ B hml hv
  obtain ⟨rfl, hW⟩ := hv
  have hts0 := atoms_spec (ws := wsW_ y cc nL ret hh) B.pre
  have hts : ∀ w ∈ lw_all, w.before as.toArray s = true := fun w h => hts0 w (List.mem_cons_of_mem _ h)
  have hown : s.vm.findClass y.cls = some m.cls := findClass_of_methodNamed B.named
  have hnm : meth.name = y.name := (name_of_methodNamed B.named B.method).1
  have htb : c.exceptionTable.toList = tableOf hh := vx_table (x := y) B (hts0 _ List.mem_cons_self)
  have K := body (g, (p, l, e, (headSpec (wsW_ y cc nL ret hh) { frames := fr, cells := mc, slots := ms, locals := lo }).room, s, m, as.toArray, below, meth, c), nL, mc, ms, vx_MQ below (zQ g post) (zXc g px) as.toArray s mc ms (zA g)) rfl rfl
    ⟨B.exec, B.bytes, B.returns, hml, hown, hts, B.notSynchronized, hl, hW.1, hW.2.2, htb, rfl, rfl, rfl, rfl⟩ rfl hnm
  rw [lg_entry_eq]
  exact K s.heap [] 0 0 _ ⟨hW.2.1, hW.2.2, Nat.le_refl _, fun z hz => nomatch hz⟩ (Nat.le_of_eq (Nat.zero_add mc)) (Nat.le_of_eq (Nat.zero_add ms)) (zentry hcat hn).2
/-- q thrown over the frame -/
def zWx (Z : zZ) (h : zH) (cb sb pc : Nat) (L : List (Option Value)) (st : List Value) (E : String) : Prop :=
  ∀ (H : Heap) (locs : List Loc) (cells slots : Nat) (ls : Array Slot) (q : Nat) (ce : Cell), zOk Z h H locs → cells + cb ≤ Z.2.2.2.1 → slots + sb ≤ Z.2.2.2.2.1 → zLs ls Z.2.2.1 L → H[q]? = some ce → ce.vm = .none → (zs Z).vm.findClass E = some ce.cls →
    vx_W (zp Z) (zl Z) (ze Z) (zR Z) (zs Z) (zm Z) (za Z) (zb Z) (zt Z) (zc Z) H locs cells slots Z.2.2.2.2.2 (F0 (zm Z) pc ls st) q
section ZENDS
variable {Z : zZ} {cc : ByteArray} {ret : Option FieldType} {own : String} {hh : List (Nat × Nat × Nat × Nat)} {fr lo : Nat} {post : Option Value → zH → Prop} {px : String → zH → Prop}
variable {h : zH} {cb sb pc : Nat} {L : List (Option Value)} {st rest : List Value}
theorem zend {v : Option Value} (hC : zC Z cc ret own hh fr lo) {H : Heap} {locs : List Loc} (ok : zOk Z h H locs) (hq : post v h) (t : State) (ht : t.heap = H) (hW : (zs Z).WarmedH t.vm) : zQ Z.1 post (za Z) (zs Z) (.returned v) t :=
  ⟨v, h, rfl, hq, by rw [ht]; exact ok.1, by rw [ht]; exact ok.2.1, by rw [ht]; exact ok.2.2.1⟩
theorem r_iret (hC : zC Z cc ret own hh fr lo) (hE : zEnd Z post px) (hr : ret = some .int) {v : Int32} (d : decode cc pc = .ok (.ireturn, 1)) (hq : post (some (.int v)) h) : zW Z h cb sb pc L [.int v] := by
  subst hr
  intro H locs cells slots ls ok hcb hsb hls
  unfold zw
  rw [show Z.2.2.2.2.2 = _ from hE]
  refine W.widen (k := Z.2.2.2.1) (n := Z.2.2.2.2.1) (by omega) (by omega) (vx_ret ?_)
  exact W.iret hC.1 hC.2.1 hC.2.2.1 (fun t ht hW => zend hC ok hq t ht hW) ok.2.2.2 d (hlocks := hC.2.2.2.2.2.2.1)
theorem r_zret (hC : zC Z cc ret own hh fr lo) (hE : zEnd Z post px) {ty : FieldType} (hr : ret = some ty) {v : Int32} (hn : narrow ty (.int v) = .int v) (d : decode cc pc = .ok (.ireturn, 1)) (hq : post (some (.int v)) h) : zW Z h cb sb pc L [.int v] := by
  subst hr
  intro H locs cells slots ls ok hcb hsb hls
  unfold zw
  rw [show Z.2.2.2.2.2 = _ from hE]
  refine W.widen (k := Z.2.2.2.1) (n := Z.2.2.2.2.1) (by omega) (by omega) (vx_ret ?_)
  exact W.zret hC.1 hC.2.1 hC.2.2.1 hn (fun t ht hW => zend hC ok hq t ht hW) ok.2.2.2 d (hlocks := hC.2.2.2.2.2.2.1)
theorem r_vret (hC : zC Z cc ret own hh fr lo) (hE : zEnd Z post px) (hr : ret = none) (d : decode cc pc = .ok (.return_, 1)) (hq : post none h) : zW Z h cb sb pc L [] := by
  subst hr
  intro H locs cells slots ls ok hcb hsb hls
  unfold zw
  rw [show Z.2.2.2.2.2 = _ from hE]
  refine W.widen (k := Z.2.2.2.1) (n := Z.2.2.2.2.1) (by omega) (by omega) (vx_ret ?_)
  exact W.vret hC.1 hC.2.1 hC.2.2.1 (fun t ht hW => zend hC ok hq t ht hW) ok.2.2.2 d (hlocks := hC.2.2.2.2.2.2.1)
theorem r_aret (hC : zC Z cc ret own hh fr lo) (hE : zEnd Z post px) {rt : FieldType} (hr : ret = some rt) (hrt : (∃ n, rt = .object n) ∨ ∃ t, rt = .array t) {v : Value} (hv : zisR v = true) (d : decode cc pc = .ok (.areturn, 1)) (hq : post (some v) h) : zW Z h cb sb pc L [v] := by
  subst hr
  intro H locs cells slots ls ok hcb hsb hls
  unfold zw
  rw [show Z.2.2.2.2.2 = _ from hE]
  refine W.widen (k := Z.2.2.2.1) (n := Z.2.2.2.2.1) (by omega) (by omega) (vx_ret ?_)
  have hv' : v = .null ∨ ∃ a, v = .ref a := by
    cases v <;> first | exact Or.inl rfl | exact Or.inr ⟨_, rfl⟩ | cases hv
  exact W.aret hC.1 hC.2.1 hC.2.2.1 hrt hv' (fun t ht hW => zend hC ok hq t ht hW) ok.2.2.2 d (hlocks := hC.2.2.2.2.2.2.1)
/-- thrown here, no row of the table covers: on to the caller -/
theorem r_xout (hC : zC Z cc ret own hh fr lo) (hE : zEnd Z post px) {E : String} (hout : ∀ x ∈ tableOf hh, covers x pc = false) (hq : px E h) : zWx Z h cb sb pc L st E := by
  intro H locs cells slots ls q ce ok hcb hsb hls hce hv hcl
  rw [show Z.2.2.2.2.2 = _ from hE]
  refine vx_out (fun x hx => hout x (by rw [← hC.2.2.2.2.2.2.2.2.2.2.1]; exact hx)) hC.2.2.2.2.2.2.1 hce hv hcl (fun t ht hW => ⟨h, hq, by rw [ht]; exact ok.1, by rw [ht]; exact ok.2.1, by rw [ht]; exact ok.2.2.1⟩) ok.2.2.2 (by omega) (by omega)
end ZENDS

section ZCALL
variable {Z : zZ} {cc : ByteArray} {ret : Option FieldType} {own : String} {hh : List (Nat × Nat × Nat × Nat)} {fr lo : Nat}
variable {h : zH} {cb sb pc : Nat} {L : List (Option Value)} {st rest : List Value}
variable {y : MethodName} {bytes : ByteArray} {maxL index n fr' lo' mc ms : Nat} {ry : Option FieldType} {As : List Value} {post : Option Value → zH → Prop} {px : String → zH → Prop}
theorem zgo {ws : List Cond} {cb' sb' : Nat} {H : Heap} {locs : List Loc} {cells slots : Nat} {ls : Array Slot} {a : Array Value} (ok : zOk Z h H locs) (hcb : cells + cb ≤ Z.2.2.2.1) (hsb : slots + sb ≤ Z.2.2.2.2.1) (hls : zLs ls Z.2.2.1 L) (h1 : cb' + mc ≤ cb) (h2 : sb' + ms ≤ sb)
    (hr : vx_Run (zp Z) (zl Z) (ze Z) (zR Z) (zs Z) (zm Z) (za Z) (zb Z) (zt Z) (zc Z) H locs cells slots mc ms (F0 (zm Z) pc ls st) rest (zQ Z.1 post a) (zXc Z.1 px) (zA Z.1))
    (kx : ∀ E h', px E h' → zWx Z h' cb' sb' pc L rest E) (kk : ∀ v h', post v h' → zW Z h' cb' sb' (pc + 3) L (v.toList ++ rest)) : zw Z H locs cells slots (F0 (zm Z) pc ls st) := by
  intro T hT X
  rcases hr T hT X with ⟨v, st₀, t, T', Ls, h0, X', hL, e1, e2, ⟨v', h', hv, hp, r1, r2, r3⟩, go⟩ | ⟨q, st₀, t, T', Ls, E, ce, h0, X', hL, e1, e2, ⟨h', hp, r1, r2, r3⟩, hce, hcv, hcl, go⟩
  · cases hv
    rw [← e1] at r1 r2 r3
    rw [h0] at r3
    obtain ⟨t2, a1, b1⟩ := kk v h' hp T'.heap (locs ++ Ls) (cells + mc) (slots + ms) ls ⟨r1, r2, Nat.le_trans ok.2.2.1 r3, fun z hz => (List.mem_append.mp hz).elim (ok.2.2.2 z) (hL z)⟩ (by omega) (by omega) hls T' rfl X'
    exact ⟨t2, go t2 a1, b1⟩
  · rw [← e1] at r1 r2 r3 hce
    rw [h0] at r3
    obtain ⟨t2, a1, b1⟩ := kx E h' hp T'.heap (locs ++ Ls) (cells + mc) (slots + ms) ls q ce ⟨r1, r2, Nat.le_trans ok.2.2.1 r3, fun z hz => (List.mem_append.mp hz).elim (ok.2.2.2 z) (hL z)⟩ (by omega) (by omega) hls hce hcv hcl T' rfl X'
    exact ⟨t2, go.trans a1, b1⟩
theorem zfix (hC : zC Z cc ret own hh fr lo) : CallFix (zp Z) (zm Z) (zc Z) cc Z.2.2.1 (zs Z) (za Z) lw_all own := ⟨hC.1, hC.2.1, hC.2.2.2.1, hC.2.2.2.2.1, hC.2.2.2.2.2.1⟩
theorem zcb (hC : zC Z cc ret own hh fr lo) (q1 : Cond.methodLink own index y ∈ lw_all) (q4 : Cond.initialized y.cls ∈ lw_all) (q5 : Cond.code y bytes maxL ry ∈ lw_all)
    (hd : y.cls ≠ "java/lang/invoke/MethodHandle" ∧ y.cls ≠ "java/lang/invoke/VarHandle" ∧ (parseMethodDescriptor y.desc).map (fun d => d.parameters.length) = some n) (hfr : fr' + 1 ≤ fr) (hlo : 8 + (maxL + 11) + lo' ≤ lo) :
    CallB (zR Z) (zs Z) (za Z) own index y bytes maxL ry (ws_ y bytes maxL ry) { frames := fr', cells := mc, slots := ms, locals := lo' } mc ms n :=
  callB_of n hC.2.2.2.2.2.1 (lw_meth q5) rfl rfl rfl (hC.2.2.2.2.2.1 _ q4) (hC.2.2.2.2.2.1 _ q1) hd ⟨by rw [hC.2.2.2.2.2.2.2.2.2.2.2.1]; exact hfr, by rw [hC.2.2.2.2.2.2.2.2.2.2.2.2.1]; exact hlo⟩
theorem zpreS (hC : zC Z cc ret own hh fr lo) {H : Heap} {locs : List Loc} (ok : zOk Z h H locs) : PreS (zs Z) H (va_Pc As (fun U => zWd Z.1 h U)) As :=
  ⟨zblind _ _ _, fun U hU hW => ⟨rfl, hC.2.2.2.2.2.2.2.2.1.warm hW, by rw [hU]; exact ok.1, by rw [hU]; exact ok.2.1⟩⟩
theorem zpreV (hC : zC Z cc ret own hh fr lo) {H : Heap} {locs : List Loc} (ok : zOk Z h H locs) {ci b : Nat} {fs : List Value} {r : vw_C} (he : h b = some (.inr (ci, fs))) (hc : zcl[ci]? = some r) : PreV (zs Z) H r.1 b (va_Pc (.ref b :: As) (fun U => zWd Z.1 h U)) As :=
  ⟨zblind _ _ _, zrecv hC ok he hc, fun U hU hW => ⟨rfl, hC.2.2.2.2.2.2.2.2.1.warm hW, by rw [hU]; exact ok.1, by rw [hU]; exact ok.2.1⟩⟩
/-- invokevirtual; the receiver's kind is r -/
theorem r_callV (hC : zC Z cc ret own hh fr lo) {ci b : Nat} {fs : List Value} {r : vw_C} (hM : zM Z.1 (zl Z) y (ws_ y bytes maxL ry) fr' lo' mc ms (.ref b :: As) h post px) (he : h b = some (.inr (ci, fs))) (hc : zcl[ci]? = some r)
    (q1 : Cond.methodLink own index y ∈ lw_all) (q2 : Cond.instanceMethod y ∈ lw_all) (q3 : Cond.selects r.1 y y ∈ lw_all) (q4 : Cond.initialized y.cls ∈ lw_all) (q5 : Cond.code y bytes maxL ry ∈ lw_all)
    (hd : y.cls ≠ "java/lang/invoke/MethodHandle" ∧ y.cls ≠ "java/lang/invoke/VarHandle" ∧ (parseMethodDescriptor y.desc).map (fun d => d.parameters.length) = some n) (hn : As.length = n) (hfr : fr' + 1 ≤ fr) (hlo : 8 + (maxL + 11) + lo' ≤ lo) (hst : st = As.reverse ++ .ref b :: rest) (hsum : (rest.map fun v => v.category).sum ≤ 8)
    {cb' sb' : Nat} (h1 : cb' + mc ≤ cb) (h2 : sb' + ms ≤ sb) (d : decode cc pc = .ok (.invokevirtual index, 3)) (kx : ∀ E h', px E h' → zWx Z h' cb' sb' pc L rest E) (kk : ∀ v h', post v h' → zW Z h' cb' sb' (pc + 3) L (v.toList ++ rest)) : zW Z h cb sb pc L st := by
  intro H locs cells slots ls ok hcb hsb hls
  have hrc := hC.2.2.2.2.2.2.2.2.2.2.2.2.2.1
  have hrs := hC.2.2.2.2.2.2.2.2.2.2.2.2.2.2
  have hts := hC.2.2.2.2.2.1
  refine zgo (ws := []) ok hcb hsb hls h1 h2 (vx_runV (zfix hC) hM ⟨zcb hC q1 q4 q5 hd hfr hlo, hts _ q2, hts _ q3⟩ (zpreV hC ok he hc) rfl hn hls.1 hst (lv_room hsum) d ⟨by rw [hrc]; omega, by rw [hrs]; omega⟩) kx kk
/-- invokestatic -/
theorem r_callS (hC : zC Z cc ret own hh fr lo) (hM : zM Z.1 (zl Z) y (ws_ y bytes maxL ry) fr' lo' mc ms As h post px)
    (q1 : Cond.methodLink own index y ∈ lw_all) (q2 : Cond.static y ∈ lw_all) (q4 : Cond.initialized y.cls ∈ lw_all) (q5 : Cond.code y bytes maxL ry ∈ lw_all)
    (hd : y.cls ≠ "java/lang/invoke/MethodHandle" ∧ y.cls ≠ "java/lang/invoke/VarHandle" ∧ (parseMethodDescriptor y.desc).map (fun d => d.parameters.length) = some n) (hn : As.length = n) (hfr : fr' + 1 ≤ fr) (hlo : 8 + (maxL + 11) + lo' ≤ lo) (hst : st = As.reverse ++ rest) (hsum : (rest.map fun v => v.category).sum ≤ 8)
    {cb' sb' : Nat} (h1 : cb' + mc ≤ cb) (h2 : sb' + ms ≤ sb) (d : decode cc pc = .ok (.invokestatic index, 3)) (kx : ∀ E h', px E h' → zWx Z h' cb' sb' pc L rest E) (kk : ∀ v h', post v h' → zW Z h' cb' sb' (pc + 3) L (v.toList ++ rest)) : zW Z h cb sb pc L st := by
  intro H locs cells slots ls ok hcb hsb hls
  have hrc := hC.2.2.2.2.2.2.2.2.2.2.2.2.2.1
  have hrs := hC.2.2.2.2.2.2.2.2.2.2.2.2.2.2
  have hts := hC.2.2.2.2.2.1
  refine zgo (ws := []) ok hcb hsb hls h1 h2 (vx_runS (zfix hC) hM ⟨zcb hC q1 q4 q5 hd hfr hlo, hts _ q2⟩ (zpreS hC ok) rfl hn hls.1 hst (lv_room hsum) d ⟨by rw [hrc]; omega, by rw [hrs]; omega⟩) kx kk
/-- invokestatic of a method with a table of handlers -/
theorem r_callSX (hC : zC Z cc ret own hh fr lo) {hy : List (Nat × Nat × Nat × Nat)} (hM : zM Z.1 (zl Z) y (wsW_ y bytes maxL ry hy) fr' lo' mc ms As h post px)
    (q1 : Cond.methodLink own index y ∈ lw_all) (q2 : Cond.static y ∈ lw_all) (q4 : Cond.initialized y.cls ∈ lw_all) (q5 : Cond.codeWith y bytes maxL ry hy ∈ lw_all)
    (hd : y.cls ≠ "java/lang/invoke/MethodHandle" ∧ y.cls ≠ "java/lang/invoke/VarHandle" ∧ (parseMethodDescriptor y.desc).map (fun d => d.parameters.length) = some n) (hn : As.length = n) (hfr : fr' + 1 ≤ fr) (hlo : 8 + (maxL + 11) + lo' ≤ lo) (hst : st = As.reverse ++ rest) (hsum : (rest.map fun v => v.category).sum ≤ 8)
    {cb' sb' : Nat} (h1 : cb' + mc ≤ cb) (h2 : sb' + ms ≤ sb) (d : decode cc pc = .ok (.invokestatic index, 3)) (kx : ∀ E h', px E h' → zWx Z h' cb' sb' pc L rest E) (kk : ∀ v h', post v h' → zW Z h' cb' sb' (pc + 3) L (v.toList ++ rest)) : zW Z h cb sb pc L st := by
  intro H locs cells slots ls ok hcb hsb hls
  have hrc := hC.2.2.2.2.2.2.2.2.2.2.2.2.2.1
  have hrs := hC.2.2.2.2.2.2.2.2.2.2.2.2.2.2
  have hts := hC.2.2.2.2.2.1
  refine zgo (ws := []) ok hcb hsb hls h1 h2 (vx_runSX (zfix hC) hM (vx_cwSW n hts (lw_SW q1 q2 q4 q5) rfl rfl rfl hd ⟨by rw [hC.2.2.2.2.2.2.2.2.2.2.2.1]; exact hfr, by rw [hC.2.2.2.2.2.2.2.2.2.2.2.2.1]; exact hlo⟩) (zpreS hC ok) rfl hn hls.1 hst (lv_room hsum) d ⟨by rw [hrc]; omega, by rw [hrs]; omega⟩) kx kk
/-- invokespecial <init> -/
theorem r_callI (hC : zC Z cc ret own hh fr lo) {b : Nat} (hM : zM Z.1 (zl Z) y (ws_ y bytes maxL none) fr' lo' mc ms (.ref b :: As) h post px)
    (q1 : Cond.methodLink own index y ∈ lw_all) (q2 : Cond.instanceMethod y ∈ lw_all) (q4 : Cond.initialized y.cls ∈ lw_all) (q5 : Cond.code y bytes maxL none ∈ lw_all) (hy1 : y.name = "<init>")
    (hd : y.cls ≠ "java/lang/invoke/MethodHandle" ∧ y.cls ≠ "java/lang/invoke/VarHandle" ∧ (parseMethodDescriptor y.desc).map (fun d => d.parameters.length) = some n) (hn : As.length = n) (hfr : fr' + 1 ≤ fr) (hlo : 8 + (maxL + 11) + lo' ≤ lo) (hst : st = As.reverse ++ .ref b :: rest) (hsum : (rest.map fun v => v.category).sum ≤ 8)
    {cb' sb' : Nat} (h1 : cb' + mc ≤ cb) (h2 : sb' + ms ≤ sb) (d : decode cc pc = .ok (.invokespecial index, 3)) (kx : ∀ E h', px E h' → zWx Z h' cb' sb' pc L rest E) (kk : ∀ v h', post v h' → zW Z h' cb' sb' (pc + 3) L (v.toList ++ rest)) : zW Z h cb sb pc L st := by
  intro H locs cells slots ls ok hcb hsb hls
  have hrc := hC.2.2.2.2.2.2.2.2.2.2.2.2.2.1
  have hrs := hC.2.2.2.2.2.2.2.2.2.2.2.2.2.2
  have hts := hC.2.2.2.2.2.1
  refine zgo (ws := []) ok hcb hsb hls h1 h2 (vx_runI (zfix hC) hM ⟨zcb hC q1 q4 q5 hd hfr hlo, hy1, hts _ q2⟩ (zpreS hC ok) rfl hn hls.1 hst (lv_room hsum) d ⟨by rw [hrc]; omega, by rw [hrs]; omega⟩) kx kk
/-- .. of a nest mate's private constructor -/
theorem r_callIN (hC : zC Z cc ret own hh fr lo) {b : Nat} {host : String} (hM : zM Z.1 (zl Z) y (ws_ y bytes maxL none) fr' lo' mc ms (.ref b :: As) h post px)
    (q1 : (own, index, y, host) ∈ zNm) (q2 : Cond.instanceMethod y ∈ lw_all) (q4 : Cond.initialized y.cls ∈ lw_all) (q5 : Cond.code y bytes maxL none ∈ lw_all) (hy1 : y.name = "<init>")
    (hd : y.cls ≠ "java/lang/invoke/MethodHandle" ∧ y.cls ≠ "java/lang/invoke/VarHandle" ∧ (parseMethodDescriptor y.desc).map (fun d => d.parameters.length) = some n) (hn : As.length = n) (hfr : fr' + 1 ≤ fr) (hlo : 8 + (maxL + 11) + lo' ≤ lo) (hst : st = As.reverse ++ .ref b :: rest) (hsum : (rest.map fun v => v.category).sum ≤ 8)
    {cb' sb' : Nat} (h1 : cb' + mc ≤ cb) (h2 : sb' + ms ≤ sb) (d : decode cc pc = .ok (.invokespecial index, 3)) (kx : ∀ E h', px E h' → zWx Z h' cb' sb' pc L rest E) (kk : ∀ v h', post v h' → zW Z h' cb' sb' (pc + 3) L (v.toList ++ rest)) : zW Z h cb sb pc L st := by
  intro H locs cells slots ls ok hcb hsb hls
  have hrc := hC.2.2.2.2.2.2.2.2.2.2.2.2.2.1
  have hrs := hC.2.2.2.2.2.2.2.2.2.2.2.2.2.2
  have hts := hC.2.2.2.2.2.1
  have hA := hC.2.2.2.2.2.2.2.2.1
  refine zgo (ws := []) ok hcb hsb hls h1 h2 (vx_runIN (zfix hC) hM ⟨va_cnB n hts (lw_meth q5) rfl rfl rfl (hA.2.2.1 _ q1) (hts _ q4) hd ⟨by rw [hC.2.2.2.2.2.2.2.2.2.2.2.1]; exact hfr, by rw [hC.2.2.2.2.2.2.2.2.2.2.2.2.1]; exact hlo⟩, hy1, hts _ q2⟩ (zpreS hC ok) rfl hn hls.1 hst (lv_room hsum) d ⟨by rw [hrc]; omega, by rw [hrs]; omega⟩) kx kk
/-- the receiver's class has y from above; the code names x -/
theorem r_callU (hC : zC Z cc ret own hh fr lo) {ci b : Nat} {fs : List Value} {r : vw_C} {x : MethodName} {owner : String} (hM : zM Z.1 (zl Z) y (ws_ y bytes maxL ry) fr' lo' mc ms (.ref b :: As) h post px) (he : h b = some (.inr (ci, fs))) (hc : zcl[ci]? = some r) (hyx : y = ⟨owner, x.name, x.desc⟩)
    (q1 : Cond.methodLink own index x ∈ lw_all) (q6 : Cond.sameMethod x.cls owner x.name x.desc ∈ lw_all) (q2 : Cond.instanceMethod y ∈ lw_all) (q3 : Cond.selects r.1 x y ∈ lw_all) (q4 : Cond.initialized y.cls ∈ lw_all) (q5 : Cond.code y bytes maxL ry ∈ lw_all)
    (hd : owner ≠ "java/lang/invoke/MethodHandle" ∧ owner ≠ "java/lang/invoke/VarHandle" ∧ (parseMethodDescriptor x.desc).map (fun d => d.parameters.length) = some n) (hn : As.length = n) (hfr : fr' + 1 ≤ fr) (hlo : 8 + (maxL + 11) + lo' ≤ lo) (hst : st = As.reverse ++ .ref b :: rest) (hsum : (rest.map fun v => v.category).sum ≤ 8)
    {cb' sb' : Nat} (h1 : cb' + mc ≤ cb) (h2 : sb' + ms ≤ sb) (d : decode cc pc = .ok (.invokevirtual index, 3)) (kx : ∀ E h', px E h' → zWx Z h' cb' sb' pc L rest E) (kk : ∀ v h', post v h' → zW Z h' cb' sb' (pc + 3) L (v.toList ++ rest)) : zW Z h cb sb pc L st := by
  intro H locs cells slots ls ok hcb hsb hls
  have hrc := hC.2.2.2.2.2.2.2.2.2.2.2.2.2.1
  have hrs := hC.2.2.2.2.2.2.2.2.2.2.2.2.2.2
  have hts := hC.2.2.2.2.2.1
  have hg : GoodIn lw_all (va_wsU own index r.1 owner x y (ws_ y bytes maxL ry)) := by
    refine lw_app ?_ (lw_meth q5)
    intro w hw
    simp only [List.mem_cons, List.not_mem_nil, or_false] at hw
    rcases hw with e | e | e | e | e <;> rw [e] <;> assumption
  refine zgo (ws := []) ok hcb hsb hls h1 h2 (vx_runU (zfix hC) hM (va_cwU n hts hg rfl rfl rfl hyx hd ⟨by rw [hC.2.2.2.2.2.2.2.2.2.2.2.1]; exact hfr, by rw [hC.2.2.2.2.2.2.2.2.2.2.2.2.1]; exact hlo⟩) (zpreV hC ok he hc) rfl hn hls.1 hst (lv_room hsum) d ⟨by rw [hrc]; omega, by rw [hrs]; omega⟩) kx kk
/-- super.m(..) -/
theorem r_callSU (hC : zC Z cc ret own hh fr lo) {ci b : Nat} {fs : List Value} {r : vw_C} (hM : zM Z.1 (zl Z) y (ws_ y bytes maxL ry) fr' lo' mc ms (.ref b :: As) h post px) (he : h b = some (.inr (ci, fs))) (hc : zcl[ci]? = some r)
    (q1 : Cond.methodLink own index y ∈ lw_all) (q6 : Cond.sameMethod y.cls y.cls y.name y.desc ∈ lw_all) (q7 : Cond.superclass own y.cls ∈ lw_all) (q2 : Cond.instanceMethod y ∈ lw_all) (q4 : Cond.initialized y.cls ∈ lw_all) (q5 : Cond.code y bytes maxL ry ∈ lw_all)
    (hd : y.name ≠ "<init>" ∧ (parseMethodDescriptor y.desc).map (fun d => d.parameters.length) = some n) (hn : As.length = n) (hfr : fr' + 1 ≤ fr) (hlo : 8 + (maxL + 11) + lo' ≤ lo) (hst : st = As.reverse ++ .ref b :: rest) (hsum : (rest.map fun v => v.category).sum ≤ 8)
    {cb' sb' : Nat} (h1 : cb' + mc ≤ cb) (h2 : sb' + ms ≤ sb) (d : decode cc pc = .ok (.invokespecial index, 3)) (kx : ∀ E h', px E h' → zWx Z h' cb' sb' pc L rest E) (kk : ∀ v h', post v h' → zW Z h' cb' sb' (pc + 3) L (v.toList ++ rest)) : zW Z h cb sb pc L st := by
  intro H locs cells slots ls ok hcb hsb hls
  have hrc := hC.2.2.2.2.2.2.2.2.2.2.2.2.2.1
  have hrs := hC.2.2.2.2.2.2.2.2.2.2.2.2.2.2
  have hts := hC.2.2.2.2.2.1
  have hA := hC.2.2.2.2.2.2.2.2.1
  have hg : GoodIn lw_all (va_wsSU own index y (ws_ y bytes maxL ry)) := by
    refine lw_app ?_ (lw_meth q5)
    intro w hw
    simp only [List.mem_cons, List.not_mem_nil, or_false] at hw
    rcases hw with e | e | e | e | e <;> rw [e] <;> assumption
  refine zgo (ws := []) ok hcb hsb hls h1 h2 (vx_runSU (hA.1.1 ci r hc).2 (zfix hC) hM (va_cwSU n hts hg rfl rfl rfl hd ⟨by rw [hC.2.2.2.2.2.2.2.2.2.2.2.1]; exact hfr, by rw [hC.2.2.2.2.2.2.2.2.2.2.2.2.1]; exact hlo⟩) (zpreV hC ok he hc) rfl hn hls.1 hst (lv_room hsum) d ⟨by rw [hrc]; omega, by rw [hrs]; omega⟩) kx kk
end ZCALL
