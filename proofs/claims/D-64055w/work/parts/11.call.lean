set_option maxRecDepth 100000
/-! contracts: one form for all; starts, returns, calls -/
def Qg {S : Type} (D : va_G) (dA : Nat → ClassId) (B : Nat) (Z : State → Prop) (post : S → Prop) (rf : S → Option Value) (wf : S → va_W) : Array Value → State → Outcome → State → Prop :=
  fun _ st oc t => (∃ u : S, oc = .returned (rf u) ∧ post u ∧ Pr D dA B Z (wf u) t) ∧ va_F (bA B) st t
/-- a contract -/
abbrev Ct {S : Type} (l : Launch) (D : va_G) (dA : Nat → ClassId) (B : Nat) (Z : State → Prop) (y : MethodName) (cc : ByteArray) (maxL : Nat) (ret : Option FieldType) (d mc ms : Nat) (av : List Value) (ws : va_W) (post : S → Prop) (rf : S → Option Value) (wf : S → va_W) : Prop :=
  Met l y (ws_ y cc maxL ret) (rmD d mc ms) (va_Pc av (Pr D dA B Z ws)) (Qg D dA B Z post rf wf) mc ms (bA B)
theorem Ct.mk {S : Type} {l : Launch} {D : va_G} {dA : Nat → ClassId} {B : Nat} {Z : State → Prop} {y : MethodName} {cc : ByteArray} {maxL : Nat} {ret : Option FieldType} {d mc ms : Nat} {av : List Value} {ws : va_W} {post : S → Prop} {rf : S → Option Value} {wf : S → va_W}
    (hy : plainName y.cls = true) (hlen : (lg_sl av).length ≤ maxL) (hZ : Stab B Z)
    (body : ∀ (p : Program) (e : Env) (R : Room) (s : State) (m : MethodId) (args : Array Value) (below : List Frame) (meth : Method) (c : Code) (ls : Array Slot), Cx p R s m args c cc maxL y.cls D dA B Z d mc ms → meth.sig.returnType = ret → meth.locks = false → (y.name = "<init>" → meth.name = "<init>") → lv_has ls maxL (lv_args 0 av) → Wd D B s ws s.heap [] →
      W p l e R s m args below meth c s.heap [] 0 0 (MQ below (Qg D dA B Z post rf wf) args s mc ms (bA B)) (F0 m 0 ls [])) :
    Ct l D dA B Z y cc maxL ret d mc ms av ws post rf wf := by
  refine Met.ofW (cc := cc) (maxL := maxL) (ret := ret) hy rfl ?_
  intro p e s m args below meth c s₁ Bd hml hv
  obtain ⟨ha, hP, hD, hK, hN, hz, hB⟩ := hv
  have hts := atoms_spec (ws := ws_ y cc maxL ret) Bd.pre
  have hts : ∀ w ∈ lw_all, w.before args s = true := fun w h => hts w (List.mem_cons_of_mem _ h)
  have hown : s.vm.findClass y.cls = some m.cls := findClass_of_methodNamed Bd.named
  have hl := lv_entry av (n := maxL) hlen
  have hC : Cx p (headSpec (ws_ y cc maxL ret) (rmD d mc ms)).room s m args c cc maxL y.cls D dA B Z d mc ms := ⟨Bd.exec, Bd.bytes, hml, hown, hts, hK, hN, hz, hZ, hB, rfl, rfl, rfl, rfl⟩
  have key := body p e (headSpec (ws_ y cc maxL ret) (rmD d mc ms)).room s m args below meth c _ hC Bd.returns Bd.notSynchronized (fun h => by rw [← h]; exact (name_of_methodNamed Bd.named Bd.method).1) hl ⟨hP, hD, va_S.rf⟩
  refine W.eq ?_ key
  rw [ha, lg_entry_eq]
section CB
variable {p : Program} {l : Launch} {e : Env} {R : Room} {s : State} {m : MethodId} {args : Array Value} {below : List Frame} {meth : Method} {c : Code} {H : Heap} {locs : List Loc} {cells slots : Nat} {Q : State → Prop} {cc : ByteArray} {pc : Nat} {ls : Array Slot} {rest : List Value}
variable {S : Type} {nL : Nat} {own : String} {D : va_G} {dA : Nat → ClassId} {B : Nat} {Z : State → Prop} {d mc ms : Nat} {ws : va_W} {post : S → Prop} {rf : S → Option Value} {wf : S → va_W}
theorem ret_q (C : Cx p R s m args c cc nL own D dA B Z d mc ms) (h : Wd D B s ws H locs) (u : S) (hp : post u) {r : Option Value} (hr : rf u = r) (hw : wf u = ws) (t : State) (ht : t.heap = H) (hW : s.WarmedH t.vm) : Qg D dA B Z post rf wf args s (.returned r) t := by
  obtain ⟨hx, hb, hml, hown, hts, hK, hN, hz, hZ, hB, hRf, hRl, hRc, hRs⟩ := C
  exact ⟨⟨u, by rw [hr], hp, hw ▸ h.pr hK hN hz hZ hB t ht hW⟩, h.2.2.F ht⟩
theorem ret_v (C : Cx p R s m args c cc nL own D dA B Z d mc ms) (hrt : meth.sig.returnType = none) (hlocks : meth.locks = false) (h : Wd D B s ws H locs) (u : S) (hp : post u) (hr : rf u = none) (hw : wf u = ws) (hc : cells ≤ mc) (hs : slots ≤ ms) (hdg : decode cc pc = .ok (.return_, 1)) :
    W p l e R s m args below meth c H locs cells slots (MQ below (Qg D dA B Z post rf wf) args s mc ms (bA B)) (F0 m pc ls []) :=
  W.widen hc hs (W.vret C.1 C.2.1 hrt (ret_q C h u hp hr hw) h.2.2.2.2 hdg hlocks)
theorem ret_i (C : Cx p R s m args c cc nL own D dA B Z d mc ms) (hrt : meth.sig.returnType = some .int) (hlocks : meth.locks = false) (h : Wd D B s ws H locs) (u : S) (hp : post u) {v : Int32} (hr : rf u = some (.int v)) (hw : wf u = ws) (hc : cells ≤ mc) (hs : slots ≤ ms) (hdg : decode cc pc = .ok (.ireturn, 1)) :
    W p l e R s m args below meth c H locs cells slots (MQ below (Qg D dA B Z post rf wf) args s mc ms (bA B)) (F0 m pc ls [.int v]) :=
  W.widen hc hs (W.iret C.1 C.2.1 hrt (ret_q C h u hp hr hw) h.2.2.2.2 hdg hlocks)
theorem bZ_nar (b : Bool) : narrow .boolean (.int (bZ b)) = .int (bZ b) := by cases b <;> rfl
theorem bZ_fit (b : Bool) : fits .boolean (.int (bZ b)) = true := by cases b <;> rfl
theorem ret_z (C : Cx p R s m args c cc nL own D dA B Z d mc ms) (hrt : meth.sig.returnType = some .boolean) (hlocks : meth.locks = false) (h : Wd D B s ws H locs) (u : S) (hp : post u) {b : Bool} (hr : rf u = some (.int (bZ b))) (hw : wf u = ws) (hc : cells ≤ mc) (hs : slots ≤ ms) (hdg : decode cc pc = .ok (.ireturn, 1)) :
    W p l e R s m args below meth c H locs cells slots (MQ below (Qg D dA B Z post rf wf) args s mc ms (bA B)) (F0 m pc ls [.int (bZ b)]) :=
  W.widen hc hs (W.zret C.1 C.2.1 hrt (bZ_nar b) (ret_q C h u hp hr hw) h.2.2.2.2 hdg hlocks)
theorem ret_l (C : Cx p R s m args c cc nL own D dA B Z d mc ms) (hrt : meth.sig.returnType = some .long) (hlocks : meth.locks = false) (h : Wd D B s ws H locs) (u : S) (hp : post u) {v : Int64} (hr : rf u = some (.long v)) (hw : wf u = ws) (hc : cells ≤ mc) (hs : slots ≤ ms) (hdg : decode cc pc = .ok (.lreturn, 1)) :
    W p l e R s m args below meth c H locs cells slots (MQ below (Qg D dA B Z post rf wf) args s mc ms (bA B)) (F0 m pc ls [.long v]) :=
  W.widen hc hs (W.lret C.1 C.2.1 hrt (ret_q C h u hp hr hw) h.2.2.2.2 hdg hlocks)
theorem ret_a (C : Cx p R s m args c cc nL own D dA B Z d mc ms) {rt : FieldType} (hrt : meth.sig.returnType = some rt) (hk : (∃ n, rt = .object n) ∨ ∃ t, rt = .array t) (hlocks : meth.locks = false) (h : Wd D B s ws H locs) (u : S) (hp : post u) {v : Value} (hv : v = .null ∨ ∃ a, v = .ref a) (hr : rf u = some v) (hw : wf u = ws) (hc : cells ≤ mc) (hs : slots ≤ ms) (hdg : decode cc pc = .ok (.areturn, 1)) :
    W p l e R s m args below meth c H locs cells slots (MQ below (Qg D dA B Z post rf wf) args s mc ms (bA B)) (F0 m pc ls [v]) :=
  W.widen hc hs (W.aret C.1 C.2.1 hrt hk hv (ret_q C h u hp hr hw) h.2.2.2.2 hdg hlocks)
/-- behind a call -/
theorem call_g {st0 : List Value} {mc1 ms1 : Nat} {a : Array Value} (C : Cx p R s m args c cc nL own D dA B Z d mc ms) (h : Wd D B s ws H locs)
    (hr : va_Run p l e R s m args below meth c H locs cells slots mc1 ms1 (F0 m pc ls st0) rest (Qg D dA B Z post rf wf a) (bA B))
    (kk : ∀ (u : S) (H1 : Heap) (locs1 : List Loc), post u → Wd D B s (wf u) H1 locs1 → W p l e R s m args below meth c H1 locs1 (cells + mc1) (slots + ms1) Q (F0 m (pc + 3) ls ((rf u).toList ++ rest))) : W p l e R s m args below meth c H locs cells slots Q (F0 m pc ls st0) := by
  intro T hT X
  obtain ⟨v, st₀, t, T', L, h0, X', hL, e1, e2, ⟨⟨u, hv, hp, hpr⟩, hz, hk⟩, st⟩ := hr T hT X
  have hv : v = rf u := by cases hv; rfl
  subst hv
  have hS1 : va_S (bA B) s.heap T'.heap (locs ++ L) := by
    obtain ⟨g1, g2, g3⟩ := h.2.2
    rw [h0] at hz hk
    rw [e1]
    refine ⟨Nat.le_trans g1 hz, fun q hq hn => ?_, fun x hx => ?_⟩
    · rw [hk q (Nat.lt_of_lt_of_le hq g1) hn]; exact g2 q hq hn
    · rcases List.mem_append.mp hx with hx | hx
      · exact g3 x hx
      · exact hL x hx
  obtain ⟨t2, a1, b1⟩ := kk u T'.heap (locs ++ L) hp ⟨by rw [e1]; exact hpr.1, hpr.2.1, hS1⟩ T' rfl X'
  exact ⟨t2, st t2 a1, b1⟩
abbrev yok (y : MethodName) (n : Nat) : Prop := y.cls ≠ "java/lang/invoke/MethodHandle" ∧ y.cls ≠ "java/lang/invoke/VarHandle" ∧ (parseMethodDescriptor y.desc).map (fun d => d.parameters.length) = some n
theorem room_le {d d1 maxL : Nat} {R : Room} (h1 : R.frames = d) (h2 : R.locals = 64 * d) (hd : d1 + 1 ≤ d) (hL : maxL ≤ 45) {mc1 ms1 : Nat} : (rmD d1 mc1 ms1).frames + 1 ≤ R.frames ∧ 8 + (maxL + 11) + (rmD d1 mc1 ms1).locals ≤ R.locals := by
  refine ⟨by rw [h1]; exact hd, ?_⟩
  rw [h2]
  show 8 + (maxL + 11) + 64 * d1 ≤ 64 * d
  omega
theorem call_V {st0 As : List Value} {mc1 ms1 d1 maxL idx n b ci : Nat} {CN : String} {y : MethodName} {bytes : ByteArray} {ret : Option FieldType} {lv : List (Nat × Value)} {fs : List Value} {q : vw_C} (C : Cx p R s m args c cc nL own D dA B Z d mc ms) (h : Wd D B s ws H locs)
    (hM : Ct l D dA B Z y bytes maxL ret d1 mc1 ms1 (.ref b :: As) ws post rf wf) (hq : GoodIn lw_all (wsV own idx CN y (ws_ y bytes maxL ret))) (hy : y.cls = CN ∧ yok y n)
    (hc : vwCl[ci]? = some q) (hqc : q.1 = CN) (hm : (b, .inr (ci, fs)) ∈ ws) (hd : d1 + 1 ≤ d) (hL : maxL ≤ 45) (hn : As.length = n) (hl : lv_has ls nL lv) (hst : st0 = As.reverse ++ .ref b :: rest) (hroom : (rest.map fun v => v.category).sum ≤ 8)
    (hdg : decode cc pc = .ok (.invokevirtual idx, 3)) (hce : cells + mc1 ≤ mc ∧ slots + ms1 ≤ ms)
    (kk : ∀ (u : S) (H1 : Heap) (locs1 : List Loc), post u → Wd D B s (wf u) H1 locs1 → W p l e R s m args below meth c H1 locs1 (cells + mc1) (slots + ms1) Q (F0 m (pc + 3) ls ((rf u).toList ++ rest))) : W p l e R s m args below meth c H locs cells slots Q (F0 m pc ls st0) := by
  have C0 := C
  obtain ⟨hx, hb, hml, hown, hts, hK, hN, hz, hZ, hB, hRf, hRl, hRc, hRs⟩ := C
  obtain ⟨i, hi⟩ := List.getElem?_of_mem hm
  refine call_g C0 h (va_runV (As := As) (rest := rest) ⟨hx, hb, hml, hown, hts⟩ hM (cwV n hts hq rfl rfl rfl hy (room_le hRf hRl hd hL)) ⟨fun a U g mk q => ⟨q.1, Pr.blind hZ q.2 g mk a⟩, ?_, fun U hU hW => ⟨rfl, h.pr hK hN hz hZ hB U hU hW⟩⟩ rfl hn hl.1 hst (lv_room hroom) hdg (by rw [hRc, hRs]; exact hce)) kk
  rw [← hqc]
  exact va_recv hK h.1 hc hi
theorem call_S {st0 As : List Value} {mc1 ms1 d1 maxL idx n : Nat} {y : MethodName} {bytes : ByteArray} {ret : Option FieldType} {lv : List (Nat × Value)} (C : Cx p R s m args c cc nL own D dA B Z d mc ms) (h : Wd D B s ws H locs)
    (hM : Ct l D dA B Z y bytes maxL ret d1 mc1 ms1 As ws post rf wf) (hq : GoodIn lw_all (va_wsS own idx y (ws_ y bytes maxL ret))) (hy : yok y n)
    (hd : d1 + 1 ≤ d) (hL : maxL ≤ 45) (hn : As.length = n) (hl : lv_has ls nL lv) (hst : st0 = As.reverse ++ rest) (hroom : (rest.map fun v => v.category).sum ≤ 8)
    (hdg : decode cc pc = .ok (.invokestatic idx, 3)) (hce : cells + mc1 ≤ mc ∧ slots + ms1 ≤ ms)
    (kk : ∀ (u : S) (H1 : Heap) (locs1 : List Loc), post u → Wd D B s (wf u) H1 locs1 → W p l e R s m args below meth c H1 locs1 (cells + mc1) (slots + ms1) Q (F0 m (pc + 3) ls ((rf u).toList ++ rest))) : W p l e R s m args below meth c H locs cells slots Q (F0 m pc ls st0) := by
  have C0 := C
  obtain ⟨hx, hb, hml, hown, hts, hK, hN, hz, hZ, hB, hRf, hRl, hRc, hRs⟩ := C
  exact call_g C0 h (va_runS (As := As) (rest := rest) ⟨hx, hb, hml, hown, hts⟩ hM (va_cwS n hts hq rfl rfl rfl hy (room_le hRf hRl hd hL)) ⟨fun a U g mk q => ⟨q.1, Pr.blind hZ q.2 g mk a⟩, fun U hU hW => ⟨rfl, h.pr hK hN hz hZ hB U hU hW⟩⟩ rfl hn hl.1 hst (lv_room hroom) hdg (by rw [hRc, hRs]; exact hce)) kk
theorem call_I {st0 As : List Value} {mc1 ms1 d1 maxL idx n b : Nat} {y : MethodName} {bytes : ByteArray} {lv : List (Nat × Value)} (C : Cx p R s m args c cc nL own D dA B Z d mc ms) (h : Wd D B s ws H locs)
    (hM : Ct l D dA B Z y bytes maxL none d1 mc1 ms1 (.ref b :: As) ws post rf wf) (hq : GoodIn lw_all (ws_ y bytes maxL none)) (hq1 : Cond.initialized y.cls ∈ lw_all) (hq2 : Cond.methodLink own idx y ∈ lw_all) (hq3 : Cond.instanceMethod y ∈ lw_all) (hin : y.name = "<init>") (hy : yok y n)
    (hd : d1 + 1 ≤ d) (hL : maxL ≤ 45) (hn : As.length = n) (hl : lv_has ls nL lv) (hst : st0 = As.reverse ++ .ref b :: rest) (hroom : (rest.map fun v => v.category).sum ≤ 8)
    (hdg : decode cc pc = .ok (.invokespecial idx, 3)) (hce : cells + mc1 ≤ mc ∧ slots + ms1 ≤ ms)
    (kk : ∀ (u : S) (H1 : Heap) (locs1 : List Loc), post u → Wd D B s (wf u) H1 locs1 → W p l e R s m args below meth c H1 locs1 (cells + mc1) (slots + ms1) Q (F0 m (pc + 3) ls ((rf u).toList ++ rest))) : W p l e R s m args below meth c H locs cells slots Q (F0 m pc ls st0) := by
  have C0 := C
  obtain ⟨hx, hb, hml, hown, hts, hK, hN, hz, hZ, hB, hRf, hRl, hRc, hRs⟩ := C
  exact call_g C0 h (va_runI (As := As) (rest := rest) ⟨hx, hb, hml, hown, hts⟩ hM (cwI n hts hq rfl rfl rfl (hts _ hq1) (hts _ hq2) (hts _ hq3) hin hy (room_le hRf hRl hd hL)) ⟨fun a U g mk q => ⟨q.1, Pr.blind hZ q.2 g mk a⟩, fun U hU hW => ⟨rfl, h.pr hK hN hz hZ hB U hU hW⟩⟩ rfl hn hl.1 hst (lv_room hroom) hdg (by rw [hRc, hRs]; exact hce)) kk
end CB
theorem Ct.mk2 {S : Type} {l : Launch} {D : va_G} {dA : Nat → ClassId} {B : Nat} {Z : State → Prop} {y : MethodName} {cc : ByteArray} {maxL : Nat} {ret : Option FieldType} {d mc ms : Nat} {av : List Value} {ws : va_W} {post : S → Prop} {rf : S → Option Value} {wf : S → va_W}
    (hy : plainName y.cls = true) (hlen : (lg_sl av).length ≤ maxL) (hZ : Stab B Z)
    (body : ∀ (p : Program) (e : Env) (R : Room) (s : State) (m : MethodId) (args : Array Value) (below : List Frame) (meth : Method) (c : Code) (ls : Array Slot) (Q : State → Prop), Cx p R s m args c cc maxL y.cls D dA B Z d mc ms → meth.sig.returnType = ret → meth.locks = false → (y.name = "<init>" → meth.name = "<init>") → Q = MQ below (Qg D dA B Z post rf wf) args s mc ms (bA B) → lv_has ls maxL (lv_args 0 av) → Wd D B s ws s.heap [] →
      W p l e R s m args below meth c s.heap [] 0 0 Q (F0 m 0 ls [])) :
    Ct l D dA B Z y cc maxL ret d mc ms av ws post rf wf :=
  Ct.mk hy hlen hZ (fun p e R s m args below meth c ls C hr hlo hin hl h => body p e R s m args below meth c ls _ C hr hlo hin rfl hl h)
