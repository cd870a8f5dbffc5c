set_option maxRecDepth 100000
/-! contracts of methods that return or throw -/
def Xg {SX : Type} (D : va_G) (dA : Nat → ClassId) (B : Nat) (Z : State → Prop) (px : SX → Prop) (ax : SX → Nat) (en : SX → String) (wx : SX → va_W) : String → Addr → State → State → Prop :=
  fun E q st t => (∃ u : SX, E = en u ∧ q = ax u ∧ px u ∧ Pr D dA B Z (wx u) t) ∧ va_F (bA B) st t
abbrev CtX {S SX : Type} (l : Launch) (D : va_G) (dA : Nat → ClassId) (B : Nat) (Z : State → Prop) (y : MethodName) (cc : ByteArray) (maxL : Nat) (ret : Option FieldType) (d mc ms : Nat) (av : List Value) (ws : va_W) (post : S → Prop) (rf : S → Option Value) (wf : S → va_W) (px : SX → Prop) (ax : SX → Nat) (en : SX → String) (wx : SX → va_W) : Prop :=
  vy_Met l y (ws_ y cc maxL ret) (rmD d mc ms) (va_Pc av (Pr D dA B Z ws)) (Qg D dA B Z post rf wf) (Xg D dA B Z px ax en wx) mc ms (bA B)
theorem CtX.mk2 {S SX : Type} {l : Launch} {D : va_G} {dA : Nat → ClassId} {B : Nat} {Z : State → Prop} {y : MethodName} {cc : ByteArray} {maxL : Nat} {ret : Option FieldType} {d mc ms : Nat} {av : List Value} {ws : va_W} {post : S → Prop} {rf : S → Option Value} {wf : S → va_W} {px : SX → Prop} {ax : SX → Nat} {en : SX → String} {wx : SX → va_W}
    (hy : plainName y.cls = true) (hlen : (lg_sl av).length ≤ maxL) (hZ : Stab B Z)
    (body : ∀ (p : Program) (e : Env) (R : Room) (s : State) (m : MethodId) (args : Array Value) (below : List Frame) (meth : Method) (c : Code) (ls : Array Slot) (Q : State → Prop), Cx p R s m args c cc maxL y.cls D dA B Z d mc ms → meth.sig.returnType = ret → meth.locks = false → (y.name = "<init>" → meth.name = "<init>") → (∀ x ∈ c.exceptionTable.toList, False) → Q = vy_MQ below (Qg D dA B Z post rf wf) (Xg D dA B Z px ax en wx) args s mc ms (bA B) → lv_has ls maxL (lv_args 0 av) → Wd D B s ws s.heap [] →
      W p l e R s m args below meth c s.heap [] 0 0 Q (F0 m 0 ls [])) :
    CtX l D dA B Z y cc maxL ret d mc ms av ws post rf wf px ax en wx := by
  refine vy_ofW (cc := cc) (maxL := maxL) (ret := ret) hy rfl ?_
  intro p e s m args below meth c s₁ Bd hml hex hv
  obtain ⟨ha, hP, hD, hK, hN, hz, hB⟩ := hv
  have hts := atoms_spec (ws := ws_ y cc maxL ret) Bd.pre
  have hts : ∀ w ∈ lw_all, w.before args s = true := fun w h => hts w (List.mem_cons_of_mem _ h)
  have hown : s.vm.findClass y.cls = some m.cls := findClass_of_methodNamed Bd.named
  have hl := lv_entry av (n := maxL) hlen
  have hC : Cx p (headSpec (ws_ y cc maxL ret) (rmD d mc ms)).room s m args c cc maxL y.cls D dA B Z d mc ms := ⟨Bd.exec, Bd.bytes, hml, hown, hts, hK, hN, hz, hZ, hB, rfl, rfl, rfl, rfl⟩
  have key := body p e (headSpec (ws_ y cc maxL ret) (rmD d mc ms)).room s m args below meth c _ _ hC Bd.returns Bd.notSynchronized (fun h => by rw [← h]; exact (name_of_methodNamed Bd.named Bd.method).1) hex rfl hl ⟨hP, hD, va_S.rf⟩
  refine W.eq ?_ key
  rw [ha, lg_entry_eq]
section XB
variable {p : Program} {l : Launch} {e : Env} {R : Room} {s : State} {m : MethodId} {args : Array Value} {below : List Frame} {meth : Method} {c : Code} {H : Heap} {locs : List Loc} {cells slots : Nat} {Q : State → Prop} {cc : ByteArray} {pc : Nat} {ls : Array Slot} {rest : List Value}
variable {S SX : Type} {nL : Nat} {own : String} {D : va_G} {dA : Nat → ClassId} {B : Nat} {Z : State → Prop} {d mc ms : Nat} {ws : va_W} {post : S → Prop} {rf : S → Option Value} {wf : S → va_W} {px : SX → Prop} {ax : SX → Nat} {en : SX → String} {wx : SX → va_W}
/-- an object that is thrown leaves the method -/
theorem thr_out {Qc : Array Value → State → Outcome → State → Prop} {q : Addr} {ce : Cell} {E : String} (C : Cx p R s m args c cc nL own D dA B Z d mc ms) (hex : ∀ x ∈ c.exceptionTable.toList, False) (hlocks : meth.locks = false) (h : Wd D B s ws H locs) (u : SX) (he : E = en u) (hq : q = ax u) (hp : px u) (hw : wx u = ws) (hcell : H[q]? = some ce) (hv : ce.vm = .none) (hcl : s.vm.findClass E = some ce.cls) (hc : cells ≤ mc) (hs : slots ≤ ms) :
    vy_W p l e R s m args below meth c H locs cells slots (vy_MQ below Qc (Xg D dA B Z px ax en wx) args s mc ms (bA B)) (F0 m pc ls rest) q := by
  obtain ⟨hx, hb, hml, hown, hts, hK, hN, hz, hZ, hB, hRf, hRl, hRc, hRs⟩ := C
  exact vy_out (fun x hx => (hex x hx).elim) hlocks hcell hv hcl (fun t ht hW => ⟨⟨u, he, hq, hp, hw ▸ h.pr hK hN hz hZ hB t ht hW⟩, h.2.2.F ht⟩) h.2.2.2.2 hc hs
/-- an object of the world is thrown out -/
theorem x_athrow {Qc : Array Value → State → Outcome → State → Prop} {a ci : Nat} {fs : List Value} {q : vw_C} (C : Cx p R s m args c cc nL own D dA B Z d mc ms) (hex : ∀ x ∈ c.exceptionTable.toList, False) (hlocks : meth.locks = false) (h : Wd D B s ws H locs) (hm : (a, .inr (ci, fs)) ∈ ws) (hci : vwCl[ci]? = some q) (u : SX) (he : q.1 = en u) (hq : a = ax u) (hp : px u) (hw : wx u = ws) (hc : cells ≤ mc) (hs : slots ≤ ms) (hdg : decode cc pc = .ok (.athrow, 1)) :
    W p l e R s m args below meth c H locs cells slots (vy_MQ below Qc (Xg D dA B Z px ax en wx) args s mc ms (bA B)) (F0 m pc ls (.ref a :: rest)) := by
  have C0 := C
  obtain ⟨hx, hb, hml, hown, hts, hK, hN, hz, hZ, hB, hRf, hRl, hRc, hRs⟩ := C
  obtain ⟨i, hi⟩ := List.getElem?_of_mem hm
  obtain ⟨q', h1, cell, g1, g2, g3, -⟩ := h.1 i _ hi
  refine vx_athrow hx hb hdg ?_
  exact thr_out C0 hex hlocks h u he hq hp hw g1 g3 (by rw [g2]; exact (hK.1 ci q hci).2.1) hc hs
/-- behind a call of a method that may throw -/
theorem call_gx {st0 : List Value} {mc1 ms1 : Nat} {a : Array Value} (C : Cx p R s m args c cc nL own D dA B Z d mc ms) (h : Wd D B s ws H locs)
    (hr : vy_Run p l e R s m args below meth c H locs cells slots mc1 ms1 (F0 m pc ls st0) rest (Qg D dA B Z post rf wf a) (Xg D dA B Z px ax en wx) (bA B))
    (kx : ∀ (u : SX) (ce : Cell) (H1 : Heap) (locs1 : List Loc), px u → Wd D B s (wx u) H1 locs1 → H1[ax u]? = some ce → ce.vm = .none → s.vm.findClass (en u) = some ce.cls → vy_W p l e R s m args below meth c H1 locs1 (cells + mc1) (slots + ms1) Q (F0 m pc ls rest) (ax u))
    (kk : ∀ (u : S) (H1 : Heap) (locs1 : List Loc), post u → Wd D B s (wf u) H1 locs1 → W p l e R s m args below meth c H1 locs1 (cells + mc1) (slots + ms1) Q (F0 m (pc + 3) ls ((rf u).toList ++ rest))) : W p l e R s m args below meth c H locs cells slots Q (F0 m pc ls st0) := by
  have fr : ∀ (st₀ t T' : State) (L : List Loc), st₀.heap = H → T'.heap = t.heap → (∀ q ∈ L, bA B q.base) → va_F (bA B) st₀ t → va_S (bA B) s.heap T'.heap (locs ++ L) := by
    intro st₀ t T' L h0 e1 hL hF
    obtain ⟨hz, hk⟩ := hF
    obtain ⟨g1, g2, g3⟩ := h.2.2
    rw [h0] at hz hk
    rw [e1]
    refine ⟨Nat.le_trans g1 hz, fun q hq hn => ?_, fun x hx => ?_⟩
    · rw [hk q (Nat.lt_of_lt_of_le hq g1) hn]; exact g2 q hq hn
    · rcases List.mem_append.mp hx with hx | hx
      · exact g3 x hx
      · exact hL x hx
  intro T hT X
  rcases hr T hT X with ⟨v, st₀, t, T', L, h0, X', hL, e1, e2, ⟨⟨u, hv, hp, hpr⟩, hF⟩, st⟩ | ⟨q, st₀, t, T', L, E, ce, h0, X', hL, e1, e2, ⟨⟨u, he, hq, hp, hpr⟩, hF⟩, hce, hcv, hcl, st⟩
  · have hv : v = rf u := by cases hv; rfl
    subst hv
    obtain ⟨t2, a1, b1⟩ := kk u T'.heap (locs ++ L) hp ⟨by rw [e1]; exact hpr.1, hpr.2.1, fr st₀ t T' L h0 e1 hL hF⟩ T' rfl X'
    exact ⟨t2, st t2 a1, b1⟩
  · subst he hq
    obtain ⟨t2, a1, b1⟩ := kx u ce T'.heap (locs ++ L) hp ⟨by rw [e1]; exact hpr.1, hpr.2.1, fr st₀ t T' L h0 e1 hL hF⟩ (by rw [e1]; exact hce) hcv hcl T' rfl X'
    exact ⟨t2, st.trans a1, b1⟩
theorem call_VX {st0 As : List Value} {mc1 ms1 d1 maxL idx n b : Nat} {CN : String} {y : MethodName} {bytes : ByteArray} {ret : Option FieldType} {lv : List (Nat × Value)} (C : Cx p R s m args c cc nL own D dA B Z d mc ms) (h : Wd D B s ws H locs)
    (hM : CtX l D dA B Z y bytes maxL ret d1 mc1 ms1 (.ref b :: As) ws post rf wf px ax en wx) (hq : GoodIn lw_all (wsV own idx CN y (ws_ y bytes maxL ret))) (hy : y.cls = CN ∧ yok y n)
    (hR : ∃ cell : Cell, H[b]? = some cell ∧ cell.vm.isStatics = false ∧ s.vm.findClass CN = some cell.cls) (hd : d1 + 1 ≤ d) (hL : maxL ≤ 45) (hn : As.length = n) (hl : lv_has ls nL lv) (hst : st0 = As.reverse ++ .ref b :: rest) (hroom : (rest.map fun v => v.category).sum ≤ 8)
    (hdg : decode cc pc = .ok (.invokevirtual idx, 3)) (hce : cells + mc1 ≤ mc ∧ slots + ms1 ≤ ms)
    (kx : ∀ (u : SX) (ce : Cell) (H1 : Heap) (locs1 : List Loc), px u → Wd D B s (wx u) H1 locs1 → H1[ax u]? = some ce → ce.vm = .none → s.vm.findClass (en u) = some ce.cls → vy_W p l e R s m args below meth c H1 locs1 (cells + mc1) (slots + ms1) Q (F0 m pc ls rest) (ax u))
    (kk : ∀ (u : S) (H1 : Heap) (locs1 : List Loc), post u → Wd D B s (wf u) H1 locs1 → W p l e R s m args below meth c H1 locs1 (cells + mc1) (slots + ms1) Q (F0 m (pc + 3) ls ((rf u).toList ++ rest))) : W p l e R s m args below meth c H locs cells slots Q (F0 m pc ls st0) := by
  have C0 := C
  obtain ⟨hx, hb, hml, hown, hts, hK, hN, hz, hZ, hB, hRf, hRl, hRc, hRs⟩ := C
  exact call_gx C0 h (vy_runV (As := As) (rest := rest) ⟨hx, hb, hml, hown, hts⟩ hM (cwV n hts hq rfl rfl rfl hy (room_le hRf hRl hd hL)) ⟨fun a U g mk q => ⟨q.1, Pr.blind hZ q.2 g mk a⟩, hR, fun U hU hW => ⟨rfl, h.pr hK hN hz hZ hB U hU hW⟩⟩ rfl hn hl.1 hst (lv_room hroom) hdg (by rw [hRc, hRs]; exact hce)) kx kk
theorem call_SX {st0 As : List Value} {mc1 ms1 d1 maxL idx n : Nat} {y : MethodName} {bytes : ByteArray} {ret : Option FieldType} {lv : List (Nat × Value)} (C : Cx p R s m args c cc nL own D dA B Z d mc ms) (h : Wd D B s ws H locs)
    (hM : CtX l D dA B Z y bytes maxL ret d1 mc1 ms1 As ws post rf wf px ax en wx) (hq : GoodIn lw_all (va_wsS own idx y (ws_ y bytes maxL ret))) (hy : yok y n)
    (hd : d1 + 1 ≤ d) (hL : maxL ≤ 45) (hn : As.length = n) (hl : lv_has ls nL lv) (hst : st0 = As.reverse ++ rest) (hroom : (rest.map fun v => v.category).sum ≤ 8)
    (hdg : decode cc pc = .ok (.invokestatic idx, 3)) (hce : cells + mc1 ≤ mc ∧ slots + ms1 ≤ ms)
    (kx : ∀ (u : SX) (ce : Cell) (H1 : Heap) (locs1 : List Loc), px u → Wd D B s (wx u) H1 locs1 → H1[ax u]? = some ce → ce.vm = .none → s.vm.findClass (en u) = some ce.cls → vy_W p l e R s m args below meth c H1 locs1 (cells + mc1) (slots + ms1) Q (F0 m pc ls rest) (ax u))
    (kk : ∀ (u : S) (H1 : Heap) (locs1 : List Loc), post u → Wd D B s (wf u) H1 locs1 → W p l e R s m args below meth c H1 locs1 (cells + mc1) (slots + ms1) Q (F0 m (pc + 3) ls ((rf u).toList ++ rest))) : W p l e R s m args below meth c H locs cells slots Q (F0 m pc ls st0) := by
  have C0 := C
  obtain ⟨hx, hb, hml, hown, hts, hK, hN, hz, hZ, hB, hRf, hRl, hRc, hRs⟩ := C
  exact call_gx C0 h (vy_runS (As := As) (rest := rest) ⟨hx, hb, hml, hown, hts⟩ hM (va_cwS n hts hq rfl rfl rfl hy (room_le hRf hRl hd hL)) ⟨fun a U g mk q => ⟨q.1, Pr.blind hZ q.2 g mk a⟩, fun U hU hW => ⟨rfl, h.pr hK hN hz hZ hB U hU hW⟩⟩ rfl hn hl.1 hst (lv_room hroom) hdg (by rw [hRc, hRs]; exact hce)) kx kk
end XB
