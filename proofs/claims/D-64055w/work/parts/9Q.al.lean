set_option maxRecDepth 100000
/-! arrays of objects, class objects, casts; what lists rest on -/
abbrev emN : String := "DEFAULTCAPACITY_EMPTY_ELEMENTDATA"
abbrev emD : String := "[Ljava/lang/Object;"
abbrev taN : MethodName := ⟨"java/util/Collection", "toArray", "()[Ljava/lang/Object;"⟩
abbrev taA : MethodName := ⟨"java/util/ArrayList", "toArray", "()[Ljava/lang/Object;"⟩
/-- what lists need of what lies below B: the empty array e0, the class of arrays of objects mi, the interface -/
def ZA (B e0 mi : Nat) (Z : State → Prop) : Prop := (∀ U : State, Z U → va_Z "java/util/ArrayList" emN emD (.ref e0) (bA B) U U.heap) ∧ (∀ U : State, Z U → va_T (.object "java/lang/Object") e0 0 (fun _ => .null) (bA B) U U.heap) ∧ (∀ U : State, Z U → va_Mi emD mi U) ∧ (∀ U : State, Z U → va_Fw "java/util/ArrayList" taN taA U) ∧ (∀ U : State, Z U → ∃ cell : Cell, U.heap[e0]? = some cell ∧ cell.vm.isStatics = false ∧ U.vm.findClass emD = some cell.cls) ∧ e0 < B
section AL9
variable {p : Program} {l : Launch} {e : Env} {R : Room} {s : State} {m : MethodId} {args : Array Value} {below : List Frame} {meth : Method} {c : Code} {H : Heap} {locs : List Loc} {cells slots : Nat} {Q : State → Prop} {cc : ByteArray} {pc : Nat} {ls : Array Slot} {rest : List Value}
variable {nL : Nat} {own : String} {D : va_G} {dA : Nat → ClassId} {B : Nat} {Z : State → Prop} {d mc ms : Nat} {ws ws' F : va_W}
theorem n_oald (C : Cx p R s m args c cc nL own D dA B Z d mc ms) (h : Wd D B s ws H locs) {a n i : Nat} {g : Nat → Option Nat} {o : Option Nat} (hm : (a, oar dA n g) ∈ ws) (hi : i < n) (hn : n < 2147483648) (ho : g i = o) (hdg : decode cc pc = .ok (.aaload, 1))
    (kk : W p l e R s m args below meth c H locs cells slots Q (F0 m (pc + 1) ls (va_rf o :: rest))) : W p l e R s m args below meth c H locs cells slots Q (F0 m pc ls (.int (nI i) :: .ref a :: rest)) := by
  obtain ⟨hx, hb, hml, hown, hts, hK, hN, hz, hZ, hB, hRf, hRl, hRc, hRs⟩ := C
  obtain ⟨q0, hq⟩ := List.getElem?_of_mem hm
  refine va_aldq hx hb hK h.1 q0 4 hq rfl (vp_in_nI hi hn) hdg ?_
  rw [nI_clamp (Nat.lt_trans hi hn), ho]
  exact kk
theorem n_Oalen (C : Cx p R s m args c cc nL own D dA B Z d mc ms) (h : Wd D B s ws H locs) {a n : Nat} {g : Nat → Option Nat} (hm : (a, oar dA n g) ∈ ws) (hdg : decode cc pc = .ok (.arraylength, 1))
    (kk : W p l e R s m args below meth c H locs cells slots Q (F0 m (pc + 1) ls (.int (nI n) :: rest))) : W p l e R s m args below meth c H locs cells slots Q (F0 m pc ls (.ref a :: rest)) := by
  obtain ⟨hx, hb, hml, hown, hts, hK, hN, hz, hZ, hB, hRf, hRl, hRc, hRs⟩ := C
  obtain ⟨q0, hq⟩ := List.getElem?_of_mem hm
  exact va_alen (v := nI n) hx hb hK h.1 q0 4 hq rfl rfl hdg kk
theorem z_len0 (C : Cx p R s m args c cc nL own D dA B Z d mc ms) (h : Wd D B s ws H locs) {e0 mi : Nat} (hza : ZA B e0 mi Z) (hdg : decode cc pc = .ok (.arraylength, 1))
    (kk : W p l e R s m args below meth c H locs cells slots Q (F0 m (pc + 1) ls (.int (nI 0) :: rest))) : W p l e R s m args below meth c H locs cells slots Q (F0 m pc ls (.ref e0 :: rest)) := by
  obtain ⟨hx, hb, hml, hown, hts, hK, hN, hz, hZ, hB, hRf, hRl, hRc, hRs⟩ := C
  exact va_tlen (v := nI 0) hx hb (hza.2.1 s hz) h.2.2 rfl hdg kk
theorem x_oast (C : Cx p R s m args c cc nL own D dA B Z d mc ms) (h : Wd D B s ws H locs) (q1 : Nat) {a n i v ci : Nat} {g : Nat → Option Nat} {fs : List Value} {r : vw_C} (hm : ws[q1]? = some (a, oar dA n g)) (hv : (v, .inr (ci, fs)) ∈ ws) (hci : vwCl[ci]? = some r) (hca : Cond.castable r.1 "java/lang/Object" ∈ lw_tbl) (hi : i < n) (hn : n < 2147483648) (hw : ws.set q1 (a, oar dA n (upN g i (some v))) = ws') (hdg : decode cc pc = .ok (.aastore, 1))
    (kk : ∀ (H1 : Heap) (locs1 : List Loc), Wd D B s ws' H1 locs1 → W p l e R s m args below meth c H1 locs1 cells slots Q (F0 m (pc + 1) ls rest)) : W p l e R s m args below meth c H locs cells slots Q (F0 m pc ls (.ref v :: .int (nI i) :: .ref a :: rest)) := by
  obtain ⟨hx, hb, hml, hown, hts, hK, hN, hz, hZ, hB, hRf, hRl, hRc, hRs⟩ := C
  obtain ⟨qk, hqk⟩ := List.getElem?_of_mem hv
  refine va_astqO hx hb hK h.1 h.2.1 h.2.2 q1 4 qk ci (E := "java/lang/Object") (r := r) hm rfl (hN _ hca rfl) hqk hci (vp_in_nI hi hn) hdg (fun H1 locs1 hP hD hS => kk H1 locs1 ?_)
  rw [nI_clamp (Nat.lt_trans hi hn), upN_va] at hP hD
  rw [← hw]
  exact ⟨hP, hD, hS⟩
theorem x_oastN (C : Cx p R s m args c cc nL own D dA B Z d mc ms) (h : Wd D B s ws H locs) (q1 : Nat) {a n i : Nat} {g : Nat → Option Nat} (hm : ws[q1]? = some (a, oar dA n g)) (hi : i < n) (hn : n < 2147483648) (hw : ws.set q1 (a, oar dA n (upN g i none)) = ws') (hdg : decode cc pc = .ok (.aastore, 1))
    (kk : ∀ (H1 : Heap) (locs1 : List Loc), Wd D B s ws' H1 locs1 → W p l e R s m args below meth c H1 locs1 cells slots Q (F0 m (pc + 1) ls rest)) : W p l e R s m args below meth c H locs cells slots Q (F0 m pc ls (.null :: .int (nI i) :: .ref a :: rest)) := by
  obtain ⟨hx, hb, hml, hown, hts, hK, hN, hz, hZ, hB, hRf, hRl, hRc, hRs⟩ := C
  refine va_astqN hx hb hK h.1 h.2.1 h.2.2 q1 4 hm rfl (vp_in_nI hi hn) hdg (fun H1 locs1 hP hD hS => kk H1 locs1 ?_)
  rw [nI_clamp (Nat.lt_trans hi hn), upN_va] at hP hD
  rw [← hw]
  exact ⟨hP, hD, hS⟩
theorem n_newo (C : Cx p R s m args c cc nL own D dA B Z d mc ms) (h : Wd D B s ws H locs) {n idx : Nat} (hzs : ZS dA B Z) (q0 : Cond.classLink own idx "java/lang/Object" ∈ lw_all) (hn : n < 134217728) (hce : cells + 1 ≤ mc) (hsl : slots + n ≤ ms) (hdg : decode cc pc = .ok (.anewarray idx, 3))
    (kk : ∀ (q : Nat) (H1 : Heap), Wd D B s (ws ++ [(q, oar dA n (fun _ => none))]) H1 locs → W p l e R s m args below meth c H1 locs (cells + 1) (slots + n) Q (F0 m (pc + 3) ls (.ref q :: rest))) : W p l e R s m args below meth c H locs cells slots Q (F0 m pc ls (.int (nI n) :: rest)) := by
  obtain ⟨hx, hb, hml, hown, hts, hK, hN, hz, hZ, hB, hRf, hRl, hRc, hRs⟩ := C
  refine va_newq hx hb hown (hts _ q0) (hzs.2.2.2.2.1 s hz) hK h.1 h.2.1 h.2.2 (Wd.hA hB) (N' := n) (nI_pos (by omega)) (nI_clamp (by omega)) (by omega) (by rw [hRc]; exact hce) (by rw [hRs]; exact hsl) hdg (fun q cA H1 hK1 hP hD hS => ?_)
  have e1 : cA = dA 4 := by
    have h1 := va_nmO (nm := emD) (hK1.2 7 (cA, .object "java/lang/Object") rfl).2 rfl
    have h2 := va_nmO (nm := emD) (hK.2 4 (dA 4, .object "java/lang/Object") rfl).2 rfl
    exact Option.some.inj (h1.symm.trans h2)
  subst e1
  exact kk q H1 ⟨hP, hD, hS⟩
theorem x_copyO (C : Cx p R s m args c cc nL own D dA B Z d mc ms) (h : Wd D B s ws H locs) (q1 : Nat) {a0 a n0 n1 sp dp n idx ci : Nat} {f g : Nat → Option Nat} {r : vw_C} (h0 : (a0, oar dA n0 f) ∈ ws) (h1 : ws[q1]? = some (a, oar dA n1 g)) (hlink : Cond.methodLink own idx arraycopyName ∈ lw_all) (hnat : Cond.native arraycopyName ∈ lw_all) (hstat : Cond.static arraycopyName ∈ lw_all) (hini : Cond.initialized "java/lang/System" ∈ lw_all)
    (hci : vwCl[ci]? = some r) (hca : Cond.castable r.1 "java/lang/Object" ∈ lw_tbl) (hel : ∀ i, i < n → ∀ y, f (sp + i) = some y → ∃ fs, (y, .inr (ci, fs)) ∈ ws)
    (h4 : sp + n ≤ n0) (h5 : dp + n ≤ n1) (hn0 : n0 < 2147483648) (hn1 : n1 < 2147483648) (hls : ls.size = nL) (hd : 1 ≤ d) (hroom : (rest.map fun v => v.category).sum ≤ 8) (hw : ws.set q1 (a, oar dA n1 (va_cpy f g sp dp n)) = ws')
    (hdg : decode cc pc = .ok (.invokestatic idx, 3)) (kk : ∀ (H1 : Heap) (locs1 : List Loc), Wd D B s ws' H1 locs1 → W p l e R s m args below meth c H1 locs1 cells slots Q (F0 m (pc + 3) ls rest)) : W p l e R s m args below meth c H locs cells slots Q (F0 m pc ls (.int (nI n) :: .int (nI dp) :: .ref a :: .int (nI sp) :: .ref a0 :: rest)) := by
  obtain ⟨hx, hb, hml, hown, hts, hK, hN, hz, hZ, hB, hRf, hRl, hRc, hRs⟩ := C
  obtain ⟨q0, hq⟩ := List.getElem?_of_mem h0
  have e1 : (nI sp).toNatClampNeg = sp := nI_clamp (by omega)
  have e2 : (nI dp).toNatClampNeg = dp := nI_clamp (by omega)
  have e3 : (nI n).toNatClampNeg = n := nI_clamp (by omega)
  refine va_copyq hx hb (hml.trans hls.symm) hown (hts _ hlink) (hts _ hnat) (hts _ hstat) (hts _ hini) hK h.1 h.2.1 h.2.2 q0 q1 4 4 (C := r.1) hq h1 rfl rfl (nI_pos (by omega)) (nI_pos (by omega)) (nI_pos (by omega)) (by rw [e1, e3]; exact h4) (by rw [e2, e3]; exact h5) (fun i hi y hy => ?_) (fun comp c0 k3 k4 => ?_) (by rw [hRf]; exact hd) (by rw [hRl]; show _ + (nativeFrameWords "java/lang/System" "arraycopy" 5 + 11) ≤ _; have h40 := nfw_40; omega) hdg (fun H1 locs1 hP hD hS => kk H1 locs1 ?_)
  · rw [e3] at hi
    rw [e1] at hy
    obtain ⟨fs, hfs⟩ := hel i hi y hy
    obtain ⟨k, hk⟩ := List.getElem?_of_mem hfs
    exact va_recv hK h.1 hci hk
  · obtain ⟨c1, t1, f1, f2, f3⟩ := Cond.castable_spec (va_Nw.use (A := args) rfl (hN _ hca rfl))
    cases k4.symm.trans f1
    cases k3.symm.trans f2
    exact f3
  · rw [e1, e2, e3] at hP hD
    rw [← hw]
    exact ⟨hP, hD, hS⟩
theorem x_copyZ (C : Cx p R s m args c cc nL own D dA B Z d mc ms) (h : Wd D B s ws H locs) (q1 : Nat) {e0 mi a n1 idx : Nat} {g : Nat → Option Nat} (hza : ZA B e0 mi Z) (h1 : ws[q1]? = some (a, oar dA n1 g)) (hlink : Cond.methodLink own idx arraycopyName ∈ lw_all) (hnat : Cond.native arraycopyName ∈ lw_all) (hstat : Cond.static arraycopyName ∈ lw_all) (hini : Cond.initialized "java/lang/System" ∈ lw_all)
    (hls : ls.size = nL) (hd : 1 ≤ d) (hroom : (rest.map fun v => v.category).sum ≤ 8)
    (hdg : decode cc pc = .ok (.invokestatic idx, 3)) (kk : ∀ (H1 : Heap) (locs1 : List Loc), Wd D B s ws H1 locs1 → W p l e R s m args below meth c H1 locs1 cells slots Q (F0 m (pc + 3) ls rest)) : W p l e R s m args below meth c H locs cells slots Q (F0 m pc ls (.int (nI 0) :: .int (nI 0) :: .ref a :: .int (nI 0) :: .ref e0 :: rest)) := by
  obtain ⟨hx, hb, hml, hown, hts, hK, hN, hz, hZ, hB, hRf, hRl, hRc, hRs⟩ := C
  have e1 : (nI 0).toNatClampNeg = 0 := nI_clamp (by omega)
  have hw : ws.set q1 (a, oar dA n1 g) = ws := by
    obtain ⟨z1, z2⟩ := List.getElem?_eq_some_iff.mp h1
    rw [← z2]; exact List.set_getElem_self z1
  refine va_copyg hx hb (hml.trans hls.symm) hown (hts _ hlink) (hts _ hnat) (hts _ hstat) (hts _ hini) hK h.1 h.2.1 h.2.2 q1 4 (hza.2.1 s hz) h1 rfl (nI_pos (by omega)) (nI_pos (by omega)) (nI_pos (by omega)) (by rw [e1]; omega) (by rw [e1]; omega) (by rw [hRf]; exact hd) (by rw [hRl]; show _ + (nativeFrameWords "java/lang/System" "arraycopy" 5 + 11) ≤ _; have h40 := nfw_40; omega) hdg (fun H1 locs1 hP hD hS => kk H1 locs1 ?_)
  have e4 : va_cpy (fun _ => none) g 0 0 0 = g := by
    funext j; unfold va_cpy; rw [if_neg (by omega)]
  rw [e1, e4] at hP hD
  rw [← hw]
  exact ⟨hP, hD, hS⟩
theorem o_cast (C : Cx p R s m args c cc nL own D dA B Z d mc ms) (h : Wd D B s ws H locs) {a ci N idx : Nat} {fs : List Value} {RC : String} {T : u_T} (hm : (a, .inr (ci, fs)) ∈ ws) (hc : vwCl[ci]? = some (RC, T, N)) (hlink : Cond.classLink own idx RC ∈ lw_all) (hdg : decode cc pc = .ok (.checkcast idx, 3))
    (kk : W p l e R s m args below meth c H locs cells slots Q (F0 m (pc + 3) ls (.ref a :: rest))) : W p l e R s m args below meth c H locs cells slots Q (F0 m pc ls (.ref a :: rest)) := by
  have hR := o_recv C h hm hc
  obtain ⟨hx, hb, hml, hown, hts, hK, hN, hz, hZ, hB, hRf, hRl, hRc, hRs⟩ := C
  exact va_castS hx hb hown (hts _ hlink) (hK.1 ci _ hc).2 hR hdg kk
theorem z_ldcM (C : Cx p R s m args c cc nL own D dA B Z d mc ms) {e0 mi idx : Nat} (hza : ZA B e0 mi Z) (hlink : Cond.classLink own idx emD ∈ lw_all) (hdg : decode cc pc = .ok (.ldc idx, 2))
    (kk : W p l e R s m args below meth c H locs cells slots Q (F0 m (pc + 2) ls (.ref mi :: rest))) : W p l e R s m args below meth c H locs cells slots Q (F0 m pc ls rest) := by
  obtain ⟨hx, hb, hml, hown, hts, hK, hN, hz, hZ, hB, hRf, hRl, hRc, hRs⟩ := C
  exact va_ldcM hx hb hown (hts _ hlink) (hza.2.2.1 s hz) hdg kk
/-- getClass() of an array of objects: of the world, or the empty one -/
theorem z_getC (C : Cx p R s m args c cc nL own D dA B Z d mc ms) (h : Wd D B s ws H locs) {e0 mi a idx : Nat} (hza : ZA B e0 mi Z) (hm : a = e0 ∨ ∃ n g, (a, oar dA n g) ∈ ws) (hlink : Cond.methodLink own idx ⟨"java/lang/Object", "getClass", "()Ljava/lang/Class;"⟩ ∈ lw_all) (hdc : Cond.declares ⟨"java/lang/Object", "getClass", "()Ljava/lang/Class;"⟩ ∈ lw_tbl) (hsel : Cond.selects emD ⟨"java/lang/Object", "getClass", "()Ljava/lang/Class;"⟩ ⟨"java/lang/Object", "getClass", "()Ljava/lang/Class;"⟩ ∈ lw_all) (hinst : Cond.instanceMethod ⟨"java/lang/Object", "getClass", "()Ljava/lang/Class;"⟩ ∈ lw_all) (hnat : Cond.native ⟨"java/lang/Object", "getClass", "()Ljava/lang/Class;"⟩ ∈ lw_all)
    (hls : ls.size = nL) (hd : 1 ≤ d) (hroom : (rest.map fun v => v.category).sum ≤ 8) (hdg : decode cc pc = .ok (.invokevirtual idx, 3))
    (kk : W p l e R s m args below meth c H locs cells slots Q (F0 m (pc + 3) ls (.ref mi :: rest))) : W p l e R s m args below meth c H locs cells slots Q (F0 m pc ls (.ref a :: rest)) := by
  obtain ⟨hx, hb, hml, hown, hts, hK, hN, hz, hZ, hB, hRf, hRl, hRc, hRs⟩ := C
  have hr : ∃ cell : Cell, H[a]? = some cell ∧ cell.vm.isStatics = false ∧ s.vm.findClass emD = some cell.cls := by
    rcases hm with hm | ⟨n, g, hm⟩
    · subst hm
      obtain ⟨cell, g1, g2, g3⟩ := hza.2.2.2.2.1 s hz
      have hlt : a < s.heap.size := Nat.lt_of_lt_of_le hza.2.2.2.2.2 hB
      exact ⟨cell, (h.2.2.2.1 a hlt (Nat.not_le.mpr hza.2.2.2.2.2)).trans g1, g2, g3⟩
    · obtain ⟨i, hi⟩ := List.getElem?_of_mem hm
      exact ⟨_, h.1 i _ hi, rfl, va_nmO (nm := emD) (hK.2 4 (dA 4, .object "java/lang/Object") rfl).2 rfl⟩
  exact va_getC hx hb (hml.trans hls.symm) hown (hts _ hlink) ((hN _ hdc rfl).use rfl) (hts _ hsel) (hts _ hinst) (hts _ hnat) (hza.2.2.1 s hz) hr (by rw [hRf]; exact hd) (by rw [hRl]; omega) hdg kk
/-- behind a call by an interface -/
theorem call_g5 {S : Type} {post : S → Prop} {rf : S → Option Value} {wf : S → va_W} {st0 : List Value} {mc1 ms1 : Nat} {a : Array Value} (C : Cx p R s m args c cc nL own D dA B Z d mc ms) (h : Wd D B s ws H locs)
    (hr : va_Run5 p l e R s m args below meth c H locs cells slots mc1 ms1 (F0 m pc ls st0) rest (Qg D dA B Z post rf wf a) (bA B))
    (kk : ∀ (u : S) (H1 : Heap) (locs1 : List Loc), post u → Wd D B s (wf u) H1 locs1 → W p l e R s m args below meth c H1 locs1 (cells + mc1) (slots + ms1) Q (F0 m (pc + 5) ls ((rf u).toList ++ rest))) : W p l e R s m args below meth c H locs cells slots Q (F0 m pc ls st0) := by
  intro T hT X
  obtain ⟨v, st₀, t, T', L, h0, X', hL, e1, e2, ⟨⟨u, hv, hp, hpr⟩, hz, hk⟩, st⟩ := hr T hT X
  have hv : v = rf u := by cases hv; rfl
  subst hv
  have hS1 : va_S (bA B) s.heap T'.heap (locs ++ L) := by
    obtain ⟨g1, g2, g3⟩ := h.2.2
    rw [h0] at hz hk
    rw [e1]
    refine ⟨Nat.le_trans g1 hz, fun q hq hn => ?_, fun x hx => ?_⟩
    · rw [hk q (Nat.lt_of_lt_of_le hq g1) hn]; exact g2 q hq hn
    · rcases List.mem_append.mp hx with hx | hx
      · exact g3 x hx
      · exact hL x hx
  obtain ⟨t2, a1, b1⟩ := kk u T'.heap (locs ++ L) hp ⟨by rw [e1]; exact hpr.1, hpr.2.1, hS1⟩ T' rfl X'
  exact ⟨t2, st t2 a1, b1⟩
/-- toArray() of a list, by the interface -/
theorem call_TA {S : Type} {post : S → Prop} {rf : S → Option Value} {wf : S → va_W} {st0 : List Value} {mc1 ms1 d1 maxL idx cnt b e0 mi : Nat} {bytes : ByteArray} {ret : Option FieldType} {lv : List (Nat × Value)} {fs : List Value} (C : Cx p R s m args c cc nL own D dA B Z d mc ms) (h : Wd D B s ws H locs) (hza : ZA B e0 mi Z)
    (hM : Ct l D dA B Z taA bytes maxL ret d1 mc1 ms1 [.ref b] ws post rf wf) (hq : GoodIn lw_all (va_wsF own idx "java/util/ArrayList" taN taA (ws_ taA bytes maxL ret)))
    (hm : (b, .inr (16, fs)) ∈ ws) (hd : d1 + 1 ≤ d) (hL : maxL ≤ 45) (hl : lv_has ls nL lv) (hst : st0 = .ref b :: rest) (hroom : (rest.map fun v => v.category).sum ≤ 8)
    (hdg : decode cc pc = .ok (.invokeinterface idx cnt, 5)) (hce : cells + mc1 ≤ mc ∧ slots + ms1 ≤ ms)
    (kk : ∀ (u : S) (H1 : Heap) (locs1 : List Loc), post u → Wd D B s (wf u) H1 locs1 → W p l e R s m args below meth c H1 locs1 (cells + mc1) (slots + ms1) Q (F0 m (pc + 5) ls ((rf u).toList ++ rest))) : W p l e R s m args below meth c H locs cells slots Q (F0 m pc ls st0) := by
  have C0 := C
  have hR := o_recv C h (RC := RJ2) (T := TJ2) (N := 3) hm rfl
  obtain ⟨hx, hb, hml, hown, hts, hK, hN, hz, hZ, hB, hRf, hRl, hRc, hRs⟩ := C
  exact call_g5 C0 h (va_runF (As := []) (rest := rest) (hK.1 16 _ rfl).2 ⟨hx, hb, hml, hown, hts⟩ hM (va_cwF 0 hts hq rfl rfl rfl (hza.2.2.2.1 s hz) (by decide +kernel) (room_le hRf hRl hd hL)) ⟨fun a U g mk q => ⟨q.1, Pr.blind hZ q.2 g mk a⟩, hR, fun U hU hW => ⟨rfl, h.pr hK hN hz hZ hB U hU hW⟩⟩ rfl rfl hl.1 hst (lv_room hroom) hdg (by rw [hRc, hRs]; exact hce)) kk
end AL9
