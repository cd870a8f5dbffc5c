set_option maxRecDepth 100000
/-! methods with a table of handlers -/
abbrev CtH {S SX : Type} (l : Launch) (D : va_G) (dA : Nat → ClassId) (B : Nat) (Z : State → Prop) (y : MethodName) (cc : ByteArray) (maxL : Nat) (ret : Option FieldType) (hh : List (Nat × Nat × Nat × Nat)) (d mc ms : Nat) (av : List Value) (ws : va_W) (post : S → Prop) (rf : S → Option Value) (wf : S → va_W) (px : SX → Prop) (ax : SX → Nat) (en : SX → String) (wx : SX → va_W) : Prop :=
  vy_Met l y (wsW_ y cc maxL ret hh) (rmD d mc ms) (va_Pc av (Pr D dA B Z ws)) (Qg D dA B Z post rf wf) (Xg D dA B Z px ax en wx) mc ms (bA B)
theorem CtH.mk2 {S SX : Type} {l : Launch} {D : va_G} {dA : Nat → ClassId} {B : Nat} {Z : State → Prop} {y : MethodName} {cc : ByteArray} {maxL : Nat} {ret : Option FieldType} {hh : List (Nat × Nat × Nat × Nat)} {d mc ms : Nat} {av : List Value} {ws : va_W} {post : S → Prop} {rf : S → Option Value} {wf : S → va_W} {px : SX → Prop} {ax : SX → Nat} {en : SX → String} {wx : SX → va_W}
    (hy : plainName y.cls = true) (hlen : (lg_sl av).length ≤ maxL) (hZ : Stab B Z)
    (body : ∀ (p : Program) (e : Env) (R : Room) (s : State) (m : MethodId) (args : Array Value) (below : List Frame) (meth : Method) (c : Code) (ls : Array Slot) (Q : State → Prop), Cx p R s m args c cc maxL y.cls D dA B Z d mc ms → meth.sig.returnType = ret → meth.locks = false → (y.name = "<init>" → meth.name = "<init>") → c.exceptionTable.toList = tableOf hh → Q = vy_MQ below (Qg D dA B Z post rf wf) (Xg D dA B Z px ax en wx) args s mc ms (bA B) → lv_has ls maxL (lv_args 0 av) → Wd D B s ws s.heap [] →
      W p l e R s m args below meth c s.heap [] 0 0 Q (F0 m 0 ls [])) :
    CtH l D dA B Z y cc maxL ret hh d mc ms av ws post rf wf px ax en wx := by
  refine vy_ofWH (cc := cc) (maxL := maxL) (ret := ret) (hh := hh) hy rfl ?_
  intro p e s m args below meth c s₁ Bd hml hv
  obtain ⟨ha, hP, hD, hK, hN, hz, hB⟩ := hv
  have hts0 := atoms_spec (ws := wsW_ y cc maxL ret hh) Bd.pre
  have hex := vy_table (x := y) Bd (hts0 _ List.mem_cons_self)
  have hts : ∀ w ∈ lw_all, w.before args s = true := fun w h => hts0 w (List.mem_cons_of_mem _ h)
  have hown : s.vm.findClass y.cls = some m.cls := findClass_of_methodNamed Bd.named
  have hl := lv_entry av (n := maxL) hlen
  have hC : Cx p (headSpec (wsW_ y cc maxL ret hh) (rmD d mc ms)).room s m args c cc maxL y.cls D dA B Z d mc ms := ⟨Bd.exec, Bd.bytes, hml, hown, hts, hK, hN, hz, hZ, hB, rfl, rfl, rfl, rfl⟩
  have key := body p e (headSpec (wsW_ y cc maxL ret hh) (rmD d mc ms)).room s m args below meth c _ _ hC Bd.returns Bd.notSynchronized (fun h => by rw [← h]; exact (name_of_methodNamed Bd.named Bd.method).1) hex rfl hl ⟨hP, hD, va_S.rf⟩
  refine W.eq ?_ key
  rw [ha, lg_entry_eq]
section XH
variable {p : Program} {l : Launch} {e : Env} {R : Room} {s : State} {m : MethodId} {args : Array Value} {below : List Frame} {meth : Method} {c : Code} {H : Heap} {locs : List Loc} {cells slots : Nat} {Q : State → Prop} {cc : ByteArray} {pc : Nat} {ls : Array Slot} {rest : List Value}
variable {S SX : Type} {nL : Nat} {own : String} {D : va_G} {dA : Nat → ClassId} {B : Nat} {Z : State → Prop} {d mc ms : Nat} {ws : va_W} {post : S → Prop} {rf : S → Option Value} {wf : S → va_W} {px : SX → Prop} {ax : SX → Nat} {en : SX → String} {wx : SX → va_W}
theorem call_VH {st0 As : List Value} {mc1 ms1 d1 maxL idx n b : Nat} {CN : String} {y : MethodName} {bytes : ByteArray} {ret : Option FieldType} {hh : List (Nat × Nat × Nat × Nat)} {lv : List (Nat × Value)} (C : Cx p R s m args c cc nL own D dA B Z d mc ms) (h : Wd D B s ws H locs)
    (hM : CtH l D dA B Z y bytes maxL ret hh d1 mc1 ms1 (.ref b :: As) ws post rf wf px ax en wx) (hq : GoodIn lw_all (wsV own idx CN y (wsW_ y bytes maxL ret hh))) (hy : y.cls = CN ∧ yok y n)
    (hR : ∃ cell : Cell, H[b]? = some cell ∧ cell.vm.isStatics = false ∧ s.vm.findClass CN = some cell.cls) (hd : d1 + 1 ≤ d) (hL : maxL ≤ 45) (hn : As.length = n) (hl : lv_has ls nL lv) (hst : st0 = As.reverse ++ .ref b :: rest) (hroom : (rest.map fun v => v.category).sum ≤ 8)
    (hdg : decode cc pc = .ok (.invokevirtual idx, 3)) (hce : cells + mc1 ≤ mc ∧ slots + ms1 ≤ ms)
    (kx : ∀ (u : SX) (ce : Cell) (H1 : Heap) (locs1 : List Loc), px u → Wd D B s (wx u) H1 locs1 → H1[ax u]? = some ce → ce.vm = .none → s.vm.findClass (en u) = some ce.cls → vy_W p l e R s m args below meth c H1 locs1 (cells + mc1) (slots + ms1) Q (F0 m pc ls rest) (ax u))
    (kk : ∀ (u : S) (H1 : Heap) (locs1 : List Loc), post u → Wd D B s (wf u) H1 locs1 → W p l e R s m args below meth c H1 locs1 (cells + mc1) (slots + ms1) Q (F0 m (pc + 3) ls ((rf u).toList ++ rest))) : W p l e R s m args below meth c H locs cells slots Q (F0 m pc ls st0) := by
  have C0 := C
  obtain ⟨hx, hb, hml, hown, hts, hK, hN, hz, hZ, hB, hRf, hRl, hRc, hRs⟩ := C
  exact call_gx C0 h (vy_runVX (hh := hh) (As := As) (rest := rest) ⟨hx, hb, hml, hown, hts⟩ hM (vy_cwVW n hts hq rfl rfl rfl hy (room_le hRf hRl hd hL)) ⟨fun a U g mk q => ⟨q.1, Pr.blind hZ q.2 g mk a⟩, hR, fun U hU hW => ⟨rfl, h.pr hK hN hz hZ hB U hU hW⟩⟩ rfl hn hl.1 hst (lv_room hroom) hdg (by rw [hRc, hRs]; exact hce)) kx kk
theorem call_SH {st0 As : List Value} {mc1 ms1 d1 maxL idx n : Nat} {y : MethodName} {bytes : ByteArray} {ret : Option FieldType} {hh : List (Nat × Nat × Nat × Nat)} {lv : List (Nat × Value)} (C : Cx p R s m args c cc nL own D dA B Z d mc ms) (h : Wd D B s ws H locs)
    (hM : CtH l D dA B Z y bytes maxL ret hh d1 mc1 ms1 As ws post rf wf px ax en wx) (hq : GoodIn lw_all (va_wsS own idx y (wsW_ y bytes maxL ret hh))) (hy : yok y n)
    (hd : d1 + 1 ≤ d) (hL : maxL ≤ 45) (hn : As.length = n) (hl : lv_has ls nL lv) (hst : st0 = As.reverse ++ rest) (hroom : (rest.map fun v => v.category).sum ≤ 8)
    (hdg : decode cc pc = .ok (.invokestatic idx, 3)) (hce : cells + mc1 ≤ mc ∧ slots + ms1 ≤ ms)
    (kx : ∀ (u : SX) (ce : Cell) (H1 : Heap) (locs1 : List Loc), px u → Wd D B s (wx u) H1 locs1 → H1[ax u]? = some ce → ce.vm = .none → s.vm.findClass (en u) = some ce.cls → vy_W p l e R s m args below meth c H1 locs1 (cells + mc1) (slots + ms1) Q (F0 m pc ls rest) (ax u))
    (kk : ∀ (u : S) (H1 : Heap) (locs1 : List Loc), post u → Wd D B s (wf u) H1 locs1 → W p l e R s m args below meth c H1 locs1 (cells + mc1) (slots + ms1) Q (F0 m (pc + 3) ls ((rf u).toList ++ rest))) : W p l e R s m args below meth c H locs cells slots Q (F0 m pc ls st0) := by
  have C0 := C
  obtain ⟨hx, hb, hml, hown, hts, hK, hN, hz, hZ, hB, hRf, hRl, hRc, hRs⟩ := C
  exact call_gx C0 h (vy_runSX (hh := hh) (As := As) (rest := rest) ⟨hx, hb, hml, hown, hts⟩ hM (vy_cwSW n hts hq rfl rfl rfl hy (room_le hRf hRl hd hL)) ⟨fun a U g mk q => ⟨q.1, Pr.blind hZ q.2 g mk a⟩, fun U hU hW => ⟨rfl, h.pr hK hN hz hZ hB U hU hW⟩⟩ rfl hn hl.1 hst (lv_room hroom) hdg (by rw [hRc, hRs]; exact hce)) kx kk
/-- what is thrown is caught by the table's only row -/
theorem x_catch1 {a b hp ct q : Nat} {E name : String} {ce : Cell} (C : Cx p R s m args c cc nL own D dA B Z d mc ms) (hex : c.exceptionTable.toList = tableOf [(a, b, hp, ct)]) (hcov : covers ⟨a, b, hp, ct⟩ pc = true) (h0 : ct ≠ 0) (hlink : Cond.classLink own ct name ∈ lw_all) (hcast : Cond.castable E name ∈ lw_tbl) (hcell : H[q]? = some ce) (hv : ce.vm = .none) (hcl : s.vm.findClass E = some ce.cls)
    (kk : W p l e R s m args below meth c H locs cells slots Q (F0 m hp ls [.ref q])) : vy_W p l e R s m args below meth c H locs cells slots Q (F0 m pc ls rest) q := by
  obtain ⟨hx, hb, hml, hown, hts, hK, hN, hz, hZ, hB, hRf, hRl, hRc, hRs⟩ := C
  exact vy_catch hown [] ⟨a, b, hp, ct⟩ [] hex (fun z hz => by cases hz) hcov h0 (hts _ hlink) (va_Nw.use rfl (hN _ hcast rfl)) hcell hv hcl kk
end XH
