set_option maxRecDepth 100000
/-! faults: an object of a throwable class of one's own; exceptions that are made and thrown at once -/
def ZX (B : Nat) (Z : State → Prop) : Prop := ∀ U : State, Z U → vy_Zq Bundle.tN "UNASSIGNED_STACK" Bundle.steD (bA B) U U.heap ∧ vy_Zq Bundle.tN "SUPPRESSED_SENTINEL" Bundle.listD (bA B) U U.heap
/-- a cell as new made it -/
def Fre (D : va_G) (ci q : Nat) (s : State) (H : Heap) : Prop := ∃ kC : Class, s.vm.classes[D.1 ci]? = some kC ∧ H[q]? = some (freshCell (D.1 ci) kC)
theorem Fre.moved {D : va_G} {ci q : Nat} {s U : State} {H : Heap} (hW : s.vm.Alike U.vm) (h : Fre D ci q s H) : Fre D ci q U H := by
  obtain ⟨k, h1, h2⟩ := h
  obtain ⟨k', hk', he⟩ := hW.2.2 _ _ h1
  refine ⟨k', hk', ?_⟩
  rw [h2, he]
/-- one cell from the front to the end, from the end to the front -/
theorem Wd.toLast {D : va_G} {B : Nat} {s : State} {x : Nat × va_E} {X F : va_W} {H : Heap} {locs : List Loc} (h : Wd D B s ([x] ++ (X ++ F)) H locs) : Wd D B s (X ++ (F ++ [x])) H locs := by
  rw [← List.append_assoc]
  exact h.permL List.perm_append_comm
theorem Wd.toFront {D : va_G} {B : Nat} {s : State} {x : Nat × va_E} {X : va_W} {H : Heap} {locs : List Loc} (h : Wd D B s (X ++ [x]) H locs) : Wd D B s ([x] ++ X) H locs := h.permL List.perm_append_comm
section FT
variable {p : Program} {l : Launch} {e : Env} {R : Room} {s : State} {m : MethodId} {args : Array Value} {below : List Frame} {meth : Method} {c : Code} {H : Heap} {locs : List Loc} {cells slots : Nat} {Q : State → Prop} {cc : ByteArray} {pc : Nat} {ls : Array Slot} {rest : List Value}
variable {nL : Nat} {own : String} {D : va_G} {dA : Nat → ClassId} {B : Nat} {Z : State → Prop} {d mc ms : Nat} {ws F : va_W}
theorem o_newB (C : Cx p R s m args c cc nL own D dA B Z d mc ms) (h : Wd D B s ws H locs) {ci idx N : Nat} {fs : List Value} {RC : String} {T : u_T} {ty0 : Nat → FieldType} (hc : vwCl[ci]? = some (RC, T, N)) (hin : ∀ w ∈ u_ws RC T N, w ∈ lw_all) (hty : ∀ k, k < N → parseFieldDescriptor (T k).2.2.1 = some (ty0 k)) (q1 : Cond.classLink own idx RC ∈ lw_all) (q2 : Cond.instantiable RC N ∈ lw_all) (q3 : Cond.initialized RC ∈ lw_all) (hfs : ∀ j, j < N → defaultValue (ty0 j) = vp_V fs j) (hce : cells + 1 ≤ mc) (hsl : slots + N ≤ ms)
    (hdg : decode cc pc = .ok (.new idx, 3)) (kk : ∀ (q : Nat) (H1 : Heap), Fre D ci q s H1 → Wd D B s (ws ++ [(q, .inr (ci, fs))]) H1 locs → W p l e R s m args below meth c H1 locs (cells + 1) (slots + N) Q (F0 m (pc + 3) ls (.ref q :: rest))) : W p l e R s m args below meth c H locs cells slots Q (F0 m pc ls rest) := by
  obtain ⟨hx, hb, hml, hown, hts, hK, hN, hz, hZ, hB, hRf, hRl, hRc, hRs⟩ := C
  obtain ⟨hP, hD, hS⟩ := h
  have hKn := hK.1 ci _ hc
  refine W.newcK hx hb hown (hts _ q1) (hts _ q2) (hts _ q3) rfl hdg (by rw [hRc]; exact hce) (by rw [hRs]; exact hsl) hKn.2.1 rfl fun H1 kC hkC e1 z1 o1 => ?_
  have hk : ∀ (k : Nat) (x : Nat × va_E), ws[k]? = some x → H1[x.1]? = H[x.1]? := fun k x hx => o1 x.1 ((hP k x hx).lt)
  refine kk H.size H1 ⟨kC, hkC, e1⟩ ⟨((hP.kept hk).app (fun k x hx => ?_)), (hD.push hP rfl (Wd.hA hB _ hS.1)), ⟨Nat.le_trans hS.1 (by omega), fun x h1 h2 => (o1 x (Nat.lt_of_lt_of_le h1 hS.1)).trans (hS.2.1 x h1 h2), hS.2.2⟩⟩
  have hz : k < 1 := (List.getElem?_eq_some_iff.mp hx).1
  rw [show k = 0 by omega] at hx
  cases hx
  exact ⟨_, hc, (u_born ty0 hts hin hKn hkC e1 hty).to hfs⟩
theorem exT (C : Cx p R s m args c cc nL own D dA B Z d mc ms) (hzx : ZX B Z) : ∀ w ∈ Bundle.throwableAtoms, w.before args s = true := by
  obtain ⟨hx, hb, hml, hown, hts, hK, hN, hz, hZ, hB, hRf, hRl, hRc, hRs⟩ := C
  obtain ⟨hU, hS⟩ := hzx s hz
  exact vx_c (hts _ q150) (vx_c (hts _ q638) (vx_c (hts _ q647) (vx_c (hts _ q654) (vx_c (hts _ q657) (vx_c (hts _ q659) (vx_c (hts _ q639) (vx_c (hts _ q640) (vx_c (hts _ q177) (vx_c (hts _ q178) (vx_c (hts _ q641) (vx_c (hts _ q646) (vx_c (hts _ q655) (vx_c (hts _ q675) (vx_c (hts _ q628) (vx_c (hts _ q676) (vx_c (hts _ q630) (vx_c (hts _ q677) (vx_c (hts _ q632) (vx_c (hts _ q642) (vx_c hU.2.word (vx_c (hts _ q644) (vx_c hS.2.word (vx_c (hts _ q634) vx_n)))))))))))))))))))))))
theorem exR (C : Cx p R s m args c cc nL own D dA B Z d mc ms) : ∀ w ∈ Bundle.chain0Atoms "java/lang/RuntimeException" ["java/lang/Exception"], w.before args s = true := by
  obtain ⟨hx, hb, hml, hown, hts, hK, hN, hz, hZ, hB, hRf, hRl, hRc, hRs⟩ := C
  exact vx_c (hts _ q665) (vx_c (hts _ q666) (vx_c (hts _ q667) (vx_c (hts _ q668) (vx_c ((hN _ q621 rfl).use rfl) (vx_c (hts _ q668) (vx_c (hts _ q669) (vx_c (hts _ q670) (vx_c (hts _ q639) (vx_c ((hN _ q623 rfl).use rfl) vx_n)))))))))
set_option maxHeartbeats 1000000 in
/-- super() in the constructor of a fault -/
theorem x_super {a : Nat} {fs : List Value} (C : Cx p R s m args c cc nL "SignetRing$Fault" D dA B Z d mc ms) (hlt : l.stackTraces = false) (hzx : ZX B Z) (h : Wd D B s ([(a, .inr (10, fs))] ++ F) s.heap []) (hfr : Fre D 10 a s s.heap) (hsz : ls.size = nL) (hd : 6 ≤ d) (hdg : decode cc pc = .ok (.invokespecial 1, 3))
    (kk : ∀ (x0 x1 x2 x3 x4 x5 x6 : Value) (H1 : Heap) (locs1 : List Loc), Wd D B s ([(a, .inr (10, [x0, x1, x2, x3, x4, x5, x6]))] ++ F) H1 locs1 → W p l e R s m args below meth c H1 locs1 cells slots Q (F0 m (pc + 3) ls [])) : W p l e R s m args below meth c s.heap [] cells slots Q (F0 m pc ls [.ref a]) := by
  have C0 := C
  obtain ⟨hx, hb, hml, hown, hts, hK, hN, hz, hZ, hB, hRf, hRl, hRc, hRs⟩ := C
  obtain ⟨hU, hS⟩ := hzx s hz
  intro T hT X
  have htr : e.platform.stackTraces = false := (show e.platform.stackTraces = l.stackTraces by rw [X.admits.platform]).trans hlt
  have howns : e.platform.frameOwnsMonitors = true := by rw [X.admits.platform]
  have hfin : e.platform.finalization = false := by rw [X.admits.platform]
  have hpl : e.platform.magicAccessors = ({} : Platform).magicAccessors := by rw [X.admits.platform]
  obtain ⟨Th, Zi, L, LZ, Y⟩ := ThrowableC.of_atoms (args := args) howns hfin hpl (exT C0 hzx)
  obtain ⟨P1, Ps, hlen, L1, hL, hP1m, hlink1, hlink⟩ := Bundle.chain0 (args := args) hpl Y.init0 ["java/lang/Exception"] "java/lang/RuntimeException" (by decide) (by decide) (exR C0)
  obtain ⟨kX, hkX, hcell0⟩ := hfr
  have hfound : s.vm.findClass "SignetRing$Fault" = some (D.1 10) := (hK.1 10 _ rfl).2.1
  obtain ⟨c1, kX', hc1, hk, hord, -, -, hn6⟩ := Cond.instantiable_spec (hts _ q617)
  cases Option.some.inj (hc1.symm.trans hfound)
  cases Option.some.inj (hkX.symm.trans hk)
  have hsel0 : selectMethod e.platform s.vm (D.1 10) Th.fill0 = .method Th.fill0 := by
    obtain ⟨c2, r2, m2, q1, q2, q3, q4, -⟩ := Cond.selects_spec (hts _ q625)
    cases Option.some.inj (q1.symm.trans hfound)
    cases Option.some.inj (q2.symm.trans (State.methodFound?_of_named Y.fill0 (by decide)))
    cases Option.some.inj (q3.symm.trans Y.fill0)
    rw [Launch.admits_selectMethod X.admits]; exact q4
  have hselF : selectMethod e.platform s.vm (D.1 10) Th.fill = .method Th.fill := by
    obtain ⟨c2, r2, m2, q1, q2, q3, q4, -⟩ := Cond.selects_spec (hts _ q626)
    cases Option.some.inj (q1.symm.trans hfound)
    cases Option.some.inj (q2.symm.trans (State.methodFound?_of_named Y.fill (by decide)))
    cases Option.some.inj (q3.symm.trans Y.fill)
    rw [Launch.admits_selectMethod X.admits]; exact q4
  obtain ⟨cellS0, hcS0, hiss⟩ := Y.statics
  obtain ⟨u0, hu0⟩ := Cond.staticRefV Y.unassigned L.unassignedStatic L.statics hcS0 hiss (vy_isRefq (args := args) hU.1)
  obtain ⟨sen, hsen⟩ := Cond.staticRefV Y.sentinel L.sentinelStatic L.statics hcS0 hiss (vy_isRefq (args := args) hS.1)
  obtain ⟨ci198, i198, fB, hk198, hg198, ha198, hsB, -, hnB, htB, hffB⟩ := Cond.ownField (t := .object "java/lang/Object") Y.found L.cls (by decide +kernel) (hts _ q637) (hts _ q636) e.platform hpl
  have hcellS : T.heap[Th.aS]? = some cellS0 := by rw [hT]; exact hcS0
  have hcell : T.heap[a]? = some (freshCell (D.1 10) kX) := by rw [hT]; exact hcell0
  have hknownS : cellS0.vm ≠ .unknown := by
    intro hu
    rw [hu] at hiss
    cases hiss
  have hneS : Th.aS ≠ a := by
    intro he
    rw [he] at hcS0
    cases Option.some.inj (hcS0.symm.trans hcell0)
    cases hiss
  obtain ⟨tyC, dC, hdC, hdnC⟩ := Cond.laysAt hfound hk Y.cause (hts _ q627)
  obtain ⟨tyS, dS, hdS, hdnS⟩ := Cond.laysAt hfound hk Y.stack (hts _ q629)
  obtain ⟨tyP, dP, hdP, hdnP⟩ := Cond.laysAt hfound hk Y.supp (hts _ q631)
  obtain ⟨tyB, dB, hdB, hdnB⟩ := Cond.laysAt hfound hk hffB (hts _ q635)
  have bC := Cond.laysApart hdB hdC hdnB hdnC (by rw [hnB, Y.causeName]; decide)
  have bS := Cond.laysApart hdB hdS hdnB hdnS (by rw [hnB, Y.stackName]; decide)
  have bP := Cond.laysApart hdB hdP hdnB hdnP (by rw [hnB, Y.suppName]; decide)
  have hskip : SkipFacts Th e.platform s (fun u => u) u0 ((preparedCellV Th.toThrowableT (freshCell (D.1 10) kX) a u0 sen).withEntry T.cur) :=
    ⟨{ ci198 := ci198, i198 := i198, fBack := fB }, ⟨hk198, hg198, ha198, hsB⟩, by
      have := fresh_default (c := D.1 10) tyB
      rw [htB] at this
      simpa [preparedCellV, Cell.setSlot, Cell.withEntry, Array.getElem?_setIfInBounds, bC, bS, bP, bC.symm, bS.symm, bP.symm, defaultValue] using this, fun _ _ => rfl⟩
  obtain ⟨tm, methC, cdC, kC, vm₁, hnC, -, -, -, -, -, -, -, hW₁, st1⟩ := Steps.initCold (tb := p.tables) (e := e) (below := below) (s := s) (U := T) X.here hx X.warmed hpl hown (t := Bundle.init0 "java/lang/RuntimeException") rfl rfl (by decide)
    (hts _ q664) (hts _ q665) (bytes := Bundle.five) (maxL := 1) (hts _ q666)
    (f := F0 m pc ls [.ref a]) rfl (a := a) (rest := []) rfl (by rw [hb]; exact hdg)
  cases Option.some.inj (hnC.symm.trans hP1m)
  have X₁ := X.noted hW₁
  obtain ⟨vm₂, X₂, st2⟩ := X₁.ctorPlainOffV hx (g := F0 m pc ls []) rfl (hsz.trans hml.symm) Th L Zi LZ (P1 :: Ps)
    (fun P hP => by rcases List.mem_cons.mp hP with rfl | hP; exact L1; exact hL P hP) ⟨hlink1, hlink⟩ (u0 := u0) (sen := sen) (self := a) (cell := freshCell (D.1 10) kX) (cellS := cellS0)
    hcell (fun _ => by simp) (by simp) rfl rfl hsel0 hselF hcellS hneS hknownS hu0 hsen
    (Takes.of_laid hk hord tyC (by rw [Y.causeType]; rfl)) (Takes.of_laid hk hord tyS (by rw [Y.stackType]; exact fits_refV_array _ u0)) (Takes.of_laid hk hord tyP (by rw [Y.suppType]; exact fits_refV_object _ sen)) Y.objLocals hskip htr [] (by rw [hb]; exact hdg)
    (by simp only [List.length_cons, hlen, List.length_nil]; rw [hRf]; omega) (by simp only [List.length_cons, hlen, List.length_nil]; rw [hRl]; show 2 * 0 + 0 + _ ≤ _; omega)
  generalize hce : ((preparedCellV Th.toThrowableT (freshCell (D.1 10) kX) a u0 sen).setSlot Th.fStack.slot u0.v) = ce at X₂ st2
  have hcc : ce.cls = D.1 10 ∧ ce.vm = .none ∧ ce.slots.size = (freshCell (D.1 10) kX).slots.size := by
    rw [← hce]
    exact ⟨rfl, rfl, by simp [preparedCellV, Cell.setSlot]⟩
  have hlt2 : a < ((T.setVm vm₁).setVm vm₂).heap.size := (Array.getElem?_eq_some_iff.mp hcell).1
  have hq0 : (([(a, .inr (10, fs))] : va_W) ++ F)[0]? = some (a, .inr (10, fs)) := rfl
  obtain ⟨r0, hr0, cell0, g1, g2, g3, g4⟩ := h.1 0 _ hq0
  cases hr0
  cases Option.some.inj (hcell0.symm.trans g1)
  have hsl : ∀ k, k < 7 → ∃ v, ce.slots[D.2 10 k]? = some v := fun k hk9 => by
    have z1 : D.2 10 k < (freshCell (D.1 10) kX).slots.size := (Array.getElem?_eq_some_iff.mp (g4 k hk9)).1
    exact ⟨_, Array.getElem?_eq_getElem (by rw [hcc.2.2]; exact z1)⟩
  obtain ⟨x0, e0⟩ := hsl 0 (by decide)
  obtain ⟨x1, e1⟩ := hsl 1 (by decide)
  obtain ⟨x2, e2⟩ := hsl 2 (by decide)
  obtain ⟨x3, e3⟩ := hsl 3 (by decide)
  obtain ⟨x4, e4⟩ := hsl 4 (by decide)
  obtain ⟨x5, e5⟩ := hsl 5 (by decide)
  obtain ⟨x6, e6⟩ := hsl 6 (by decide)
  have hat : va_at D vwCl (a, .inr (10, [x0, x1, x2, x3, x4, x5, x6])) (((T.setVm vm₁).setVm vm₂).setCell a ce).heap := by
    refine ⟨_, rfl, ce, heapAt_setCell_self ce hlt2, hcc.1, hcc.2.1, fun k hk9 => ?_⟩
    have hk9 : k < 7 := hk9
    rcases k with _ | _ | _ | _ | _ | _ | _ | k
    · exact e0
    · exact e1
    · exact e2
    · exact e3
    · exact e4
    · exact e5
    · exact e6
    · omega
  have oq : ∀ q : Nat, q ≠ a → (((T.setVm vm₁).setVm vm₂).setCell a ce).heap[q]? = s.heap[q]? := fun q hq => by
    rw [heapAt_setCell_ne _ (Ne.symm hq)]
    show T.heap[q]? = _
    rw [hT]
  have hbA : bA B a := h.2.1.2 0 _ hq0
  obtain ⟨t', a1, b1⟩ := kk x0 x1 x2 x3 x4 x5 x6 (((T.setVm vm₁).setVm vm₂).setCell a ce).heap _ ⟨h.1.set h.2.1 hq0 hat oq, h.2.1.set hq0, ⟨by rw [size_setCell]; show _ ≤ T.heap.size; rw [hT]; exact Nat.le_refl _, fun q h1 h2 => oq q (fun z => h2 (by rw [z]; exact hbA)), fun y hy => by
    simp only [List.nil_append, List.mem_cons, List.not_mem_nil, or_false] at hy
    rcases hy with rfl | rfl | rfl | rfl <;> exact hbA⟩⟩ _ rfl X₂
  exact ⟨t', st1 _ (fun acts => by rw [doInvoke_state]; exact st2 _ a1), b1⟩
end FT
abbrev fts (x : Nat → Value) (t : Int32) : List Value := [x 0, x 1, x 2, x 3, x 4, x 5, .int t]
def FaultIn (E : va_W) (q : Nat) (t : Int32) : Prop := ∃ x : Nat → Value, (q, .inr (10, fts x t)) ∈ E
theorem FaultIn.up {E E' : va_W} {q : Nat} {t : Int32} (h : FaultIn E q t) (hs : ∀ x ∈ E, x ∈ E') : FaultIn E' q t := by
  obtain ⟨x, hx⟩ := h
  exact ⟨x, hs _ hx⟩
def ftc0 : List Value := [.null, .null, .null, .null, .null, .int 0, .int 0]
set_option maxHeartbeats 400000 in
theorem c13_init (l : Launch) (D : va_G) (dA : Nat → ClassId) (B : Nat) (Z : State → Prop) (hZ : Stab B Z) (hlt : l.stackTraces = false) (hzx : ZX B Z) (F : va_W) (a : Nat) (t : Int32) :
    Met l yX13_init (ws_ yX13_init cX13_init 2 none) (rmD 6 0 0) (va_Pc [.ref a, .int t] (fun U => Pr D dA B Z ([(a, .inr (10, ftc0))] ++ F) U ∧ Fre D 10 a U U.heap)) (Qg D dA B Z (fun _ : Nat → Value => True) (fun _ => none) (fun x => [(a, .inr (10, fts x t))] ++ F)) 0 0 (bA B) := by
  refine Met.ofW (cc := cX13_init) (maxL := 2) (ret := none) (by decide) rfl ?_
  intro p e s m args below meth c s₁ Bd hml hv
  obtain ⟨ha, ⟨hP, hD, hK, hN, hz, hB⟩, hfr⟩ := hv
  have hts := atoms_spec (ws := ws_ yX13_init cX13_init 2 none) Bd.pre
  have hts : ∀ w ∈ lw_all, w.before args s = true := fun w h => hts w (List.mem_cons_of_mem _ h)
  have hown : s.vm.findClass yX13_init.cls = some m.cls := findClass_of_methodNamed Bd.named
  have hl := lv_entry [.ref a, .int t] (n := 2) (Nat.le_of_ble_eq_true rfl)
  have hC : Cx p (headSpec (ws_ yX13_init cX13_init 2 none) (rmD 6 0 0)).room s m args c cX13_init 2 yX13_init.cls D dA B Z 6 0 0 := ⟨Bd.exec, Bd.bytes, hml, hown, hts, hK, hN, hz, hZ, hB, rfl, rfl, rfl, rfl⟩
  have hin : meth.name = "<init>" := (name_of_methodNamed Bd.named Bd.method).1
  have h : Wd D B s ([(a, .inr (10, ftc0))] ++ F) s.heap [] := ⟨hP, hD, va_S.rf⟩
  have hr := Bd.returns
  have hlocks := Bd.notSynchronized
  generalize (headSpec (ws_ yX13_init cX13_init 2 none) (rmD 6 0 0)).room = R at hC ⊢
  have C := hC
  refine W.eq (by rw [ha, lg_entry_eq]) (?_ : W p l e R s m args below meth c s.heap [] 0 0 _ (F0 m 0 ((lg_sl [.ref a, .int t] ++ List.replicate (2 - (lg_sl [.ref a, .int t]).length) Slot.unset).toArray) []))
  generalize ((lg_sl [.ref a, .int t] ++ List.replicate (2 - (lg_sl [.ref a, .int t]).length) Slot.unset).toArray) = ls at hl ⊢
  have hl : lv_has ls 2 [(0, .ref a), (1, .int t)] := hl
  obtain ⟨hx, hb, -⟩ := hC
  refine lv_aload_n hx hb dX13_init_0 rfl (lv_at hl 0 rfl) ?_
  refine x_super C hlt hzx h hfr hl.1 (by decide) dX13_init_1 (fun x0 x1 x2 x3 x4 x5 x6 H locs h => ?_)
  refine lv_aload_n hx hb dX13_init_4 rfl (lv_at hl 0 rfl) ?_
  refine lv_iload_n hx hb dX13_init_5 rfl (lv_at hl 1 rfl) ?_
  refine o_putF C h 0 (RC := RX13) (T := TX13) (N := 7) (ws' := [(a, .inr (10, [x0, x1, x2, x3, x4, x5, .int t]))] ++ F) rfl rfl in_X13 tyX13_ok nmX13 6 (by decide) q671 rfl rfl hin rfl (v := .int t) rfl rfl (Nat.le_of_ble_eq_true rfl) rfl dX13_init_6 (fun H locs h => ?_)
  exact ret_v C hr hlocks h (fun j => [x0, x1, x2, x3, x4, x5].getD j .null) trivial rfl rfl (Nat.le_refl _) (Nat.le_refl _) dX13_init_9
section FT2
variable {p : Program} {l : Launch} {e : Env} {R : Room} {s : State} {m : MethodId} {args : Array Value} {below : List Frame} {meth : Method} {c : Code} {H : Heap} {locs : List Loc} {cells slots : Nat} {Q : State → Prop} {cc : ByteArray} {pc : Nat} {ls : Array Slot} {rest : List Value}
variable {nL : Nat} {own : String} {D : va_G} {dA : Nat → ClassId} {B : Nat} {Z : State → Prop} {d mc ms : Nat} {ws F : va_W}
/-- a fault's constructor, called -/
theorem call_IF {a idx : Nat} {t : Int32} {lv : List (Nat × Value)} (C : Cx p R s m args c cc nL own D dA B Z d mc ms) (hlt : l.stackTraces = false) (hzx : ZX B Z) (h : Wd D B s ([(a, .inr (10, ftc0))] ++ F) H locs) (hfr : Fre D 10 a s H) (hq2 : Cond.methodLink own idx yX13_init ∈ lw_all)
    (hd : 7 ≤ d) (hl : lv_has ls nL lv) (hroom : (rest.map fun v => v.category).sum ≤ 8) (hdg : decode cc pc = .ok (.invokespecial idx, 3)) (hce : cells + 0 ≤ mc ∧ slots + 0 ≤ ms)
    (kk : ∀ (x : Nat → Value) (H1 : Heap) (locs1 : List Loc), Wd D B s ([(a, .inr (10, fts x t))] ++ F) H1 locs1 → W p l e R s m args below meth c H1 locs1 (cells + 0) (slots + 0) Q (F0 m (pc + 3) ls rest)) : W p l e R s m args below meth c H locs cells slots Q (F0 m pc ls (.int t :: .ref a :: rest)) := by
  have C0 := C
  obtain ⟨hx, hb, hml, hown, hts, hK, hN, hz, hZ, hB, hRf, hRl, hRc, hRs⟩ := C
  refine call_g C0 h (va_runI (As := [.int t]) (rest := rest) ⟨hx, hb, hml, hown, hts⟩ (c13_init l D dA B Z hZ hlt hzx F a t) (cwI 1 hts (lw_meth q663) rfl rfl rfl (hts _ q153) (hts _ hq2) (hts _ q662) rfl (by decide +kernel) (room_le (d1 := 6) hRf hRl hd (by decide))) ⟨fun a U g mk q => ⟨q.1, Pr.blind hZ q.2.1 g mk a, q.2.2⟩, fun U hU hW => ⟨rfl, h.pr hK hN hz hZ hB U hU hW, by rw [hU]; exact hfr.moved hW.alike⟩⟩ rfl rfl hl.1 rfl (lv_room hroom) hdg (by rw [hRc, hRs]; exact hce)) (fun x H1 locs1 _ hw => kk x H1 locs1 hw)
end FT2
