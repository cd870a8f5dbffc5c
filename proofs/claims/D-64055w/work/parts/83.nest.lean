set_option maxRecDepth 100000
/-! calls of a nest mate's private methods -/
section NB83
variable {p : Program} {l : Launch} {e : Env} {R : Room} {s : State} {m : MethodId} {args : Array Value} {below : List Frame} {meth : Method} {c : Code} {H : Heap} {locs : List Loc} {cells slots : Nat} {Q : State → Prop} {cc : ByteArray} {pc : Nat} {ls : Array Slot} {rest : List Value}
variable {S : Type} {nL : Nat} {own : String} {D : va_G} {dA : Nat → ClassId} {B : Nat} {Z : State → Prop} {d mc ms : Nat} {ws : va_W} {post : S → Prop} {rf : S → Option Value} {wf : S → va_W}
theorem call_SN {st0 As : List Value} {mc1 ms1 d1 maxL idx n : Nat} {host : String} {y : MethodName} {bytes : ByteArray} {ret : Option FieldType} {lv : List (Nat × Value)} (C : Cx p R s m args c cc nL own D dA B Z d mc ms) (h : Wd D B s ws H locs)
    (hM : Ct l D dA B Z y bytes maxL ret d1 mc1 ms1 As ws post rf wf) (hq : GoodIn lw_all (ws_ y bytes maxL ret)) (hq0 : Cond.methodLinkNest own idx y host ∈ lw_tbl) (hq1 : Cond.static y ∈ lw_all) (hq2 : Cond.initialized y.cls ∈ lw_all) (hy : yok y n)
    (hd : d1 + 1 ≤ d) (hL : maxL ≤ 45) (hn : As.length = n) (hl : lv_has ls nL lv) (hst : st0 = As.reverse ++ rest) (hroom : (rest.map fun v => v.category).sum ≤ 8)
    (hdg : decode cc pc = .ok (.invokestatic idx, 3)) (hce : cells + mc1 ≤ mc ∧ slots + ms1 ≤ ms)
    (kk : ∀ (u : S) (H1 : Heap) (locs1 : List Loc), post u → Wd D B s (wf u) H1 locs1 → W p l e R s m args below meth c H1 locs1 (cells + mc1) (slots + ms1) Q (F0 m (pc + 3) ls ((rf u).toList ++ rest))) : W p l e R s m args below meth c H locs cells slots Q (F0 m pc ls st0) := by
  have C0 := C
  obtain ⟨hx, hb, hml, hown, hts, hK, hN, hz, hZ, hB, hRf, hRl, hRc, hRs⟩ := C
  exact call_g C0 h (va_runSN (As := As) (rest := rest) ⟨hx, hb, hml, hown, hts⟩ hM ⟨va_cnB n hts hq rfl rfl rfl (hN _ hq0 rfl) (hts _ hq2) hy (room_le hRf hRl hd hL), hts _ hq1, trivial⟩ ⟨fun a U g mk q => ⟨q.1, Pr.blind hZ q.2 g mk a⟩, fun U hU hW => ⟨rfl, h.pr hK hN hz hZ hB U hU hW⟩⟩ rfl hn hl.1 hst (lv_room hroom) hdg (by rw [hRc, hRs]; exact hce)) kk
theorem call_IN {st0 As : List Value} {mc1 ms1 d1 maxL idx n b : Nat} {host : String} {y : MethodName} {bytes : ByteArray} {lv : List (Nat × Value)} (C : Cx p R s m args c cc nL own D dA B Z d mc ms) (h : Wd D B s ws H locs)
    (hM : Ct l D dA B Z y bytes maxL none d1 mc1 ms1 (.ref b :: As) ws post rf wf) (hq : GoodIn lw_all (ws_ y bytes maxL none)) (hq0 : Cond.methodLinkNest own idx y host ∈ lw_tbl) (hq1 : Cond.instanceMethod y ∈ lw_all) (hq2 : Cond.initialized y.cls ∈ lw_all) (hin : y.name = "<init>") (hy : yok y n)
    (hd : d1 + 1 ≤ d) (hL : maxL ≤ 45) (hn : As.length = n) (hl : lv_has ls nL lv) (hst : st0 = As.reverse ++ .ref b :: rest) (hroom : (rest.map fun v => v.category).sum ≤ 8)
    (hdg : decode cc pc = .ok (.invokespecial idx, 3)) (hce : cells + mc1 ≤ mc ∧ slots + ms1 ≤ ms)
    (kk : ∀ (u : S) (H1 : Heap) (locs1 : List Loc), post u → Wd D B s (wf u) H1 locs1 → W p l e R s m args below meth c H1 locs1 (cells + mc1) (slots + ms1) Q (F0 m (pc + 3) ls ((rf u).toList ++ rest))) : W p l e R s m args below meth c H locs cells slots Q (F0 m pc ls st0) := by
  have C0 := C
  obtain ⟨hx, hb, hml, hown, hts, hK, hN, hz, hZ, hB, hRf, hRl, hRc, hRs⟩ := C
  exact call_g C0 h (va_runIN (As := As) (rest := rest) ⟨hx, hb, hml, hown, hts⟩ hM ⟨va_cnB n hts hq rfl rfl rfl (hN _ hq0 rfl) (hts _ hq2) hy (room_le hRf hRl hd hL), hin, hts _ hq1⟩ ⟨fun a U g mk q => ⟨q.1, Pr.blind hZ q.2 g mk a⟩, fun U hU hW => ⟨rfl, h.pr hK hN hz hZ hB U hU hW⟩⟩ rfl hn hl.1 hst (lv_room hroom) hdg (by rw [hRc, hRs]; exact hce)) kk
end NB83
