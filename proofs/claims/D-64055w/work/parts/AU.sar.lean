set_option maxRecDepth 100000
/-! arrays of strings -/
section SA9
variable {p : Program} {l : Launch} {e : Env} {R : Room} {s : State} {m : MethodId} {args : Array Value} {below : List Frame} {meth : Method} {c : Code} {H : Heap} {locs : List Loc} {cells slots : Nat} {Q : State → Prop} {cc : ByteArray} {pc : Nat} {ls : Array Slot} {rest : List Value}
variable {nL : Nat} {own : String} {D : va_G} {dA : Nat → ClassId} {B : Nat} {Z : State → Prop} {d mc ms : Nat} {ws ws' F : va_W}
theorem n_Sald (C : Cx p R s m args c cc nL own D dA B Z d mc ms) (h : Wd D B s ws H locs) {a n i : Nat} {g : Nat → Option Nat} {o : Option Nat} (hm : (a, sar dA n g) ∈ ws) (hi : i < n) (hn : n < 2147483648) (ho : g i = o) (hdg : decode cc pc = .ok (.aaload, 1))
    (kk : W p l e R s m args below meth c H locs cells slots Q (F0 m (pc + 1) ls (va_rf o :: rest))) : W p l e R s m args below meth c H locs cells slots Q (F0 m pc ls (.int (nI i) :: .ref a :: rest)) := by
  obtain ⟨hx, hb, hml, hown, hts, hK, hN, hz, hZ, hB, hRf, hRl, hRc, hRs⟩ := C
  obtain ⟨q0, hq⟩ := List.getElem?_of_mem hm
  refine va_aldq hx hb hK h.1 q0 5 hq rfl (vp_in_nI hi hn) hdg ?_
  rw [nI_clamp (Nat.lt_trans hi hn), ho]
  exact kk
theorem n_Salen (C : Cx p R s m args c cc nL own D dA B Z d mc ms) (h : Wd D B s ws H locs) {a n : Nat} {g : Nat → Option Nat} (hm : (a, sar dA n g) ∈ ws) (hdg : decode cc pc = .ok (.arraylength, 1))
    (kk : W p l e R s m args below meth c H locs cells slots Q (F0 m (pc + 1) ls (.int (nI n) :: rest))) : W p l e R s m args below meth c H locs cells slots Q (F0 m pc ls (.ref a :: rest)) := by
  obtain ⟨hx, hb, hml, hown, hts, hK, hN, hz, hZ, hB, hRf, hRl, hRc, hRs⟩ := C
  obtain ⟨q0, hq⟩ := List.getElem?_of_mem hm
  exact va_alen (v := nI n) hx hb hK h.1 q0 5 hq rfl rfl hdg kk
theorem x_Sast (C : Cx p R s m args c cc nL own D dA B Z d mc ms) (h : Wd D B s ws H locs) (q1 : Nat) {a n i v vv : Nat} {lt : List Nat} {g : Nat → Option Nat} (hm : ws[q1]? = some (a, sar dA n g)) (hv : StrV dA B Z ws v vv lt) (hi : i < n) (hn : n < 2147483648) (hw : ws.set q1 (a, sar dA n (upN g i (some v))) = ws') (hdg : decode cc pc = .ok (.aastore, 1))
    (kk : ∀ (H1 : Heap) (locs1 : List Loc), Wd D B s ws' H1 locs1 → W p l e R s m args below meth c H1 locs1 cells slots Q (F0 m (pc + 1) ls rest)) : W p l e R s m args below meth c H locs cells slots Q (F0 m pc ls (.ref v :: .int (nI i) :: .ref a :: rest)) := by
  obtain ⟨cell, e1, e2, e3⟩ := s_recv C h hv
  obtain ⟨hx, hb, hml, hown, hts, hK, hN, hz, hZ, hB, hRf, hRl, hRc, hRs⟩ := C
  have hcls := (hK.1 17 (RJ13, TJ13, 4) rfl).2
  have e4 : cell.cls = D.1 17 := Option.some.inj (e3.symm.trans hcls.1)
  have hAny : va_Any "java/lang/String" s H v := by
    refine ⟨cell, e1, e2, ?_, fun comp hc => ?_⟩
    · obtain ⟨kC, hkC, -⟩ := hcls.2
      exact ⟨kC, by rw [e4]; exact hkC⟩
    · have e5 : comp = D.1 17 := Option.some.inj (hc.symm.trans hcls.1)
      rw [e4, e5]; exact va_assign hcls
  refine va_astqM hx hb hK h.1 h.2.1 h.2.2 q1 5 (E := "java/lang/String") hm rfl hAny (vp_in_nI hi hn) hdg (fun H1 locs1 hP hD hS => kk H1 locs1 ?_)
  rw [nI_clamp (Nat.lt_trans hi hn), upN_va] at hP hD
  rw [← hw]
  exact ⟨hP, hD, hS⟩
theorem n_news (C : Cx p R s m args c cc nL own D dA B Z d mc ms) (h : Wd D B s ws H locs) {n idx : Nat} (hzs : ZS dA B Z) (q0 : Cond.classLink own idx "java/lang/String" ∈ lw_all) (hn : n < 134217728) (hce : cells + 1 ≤ mc) (hsl : slots + n ≤ ms) (hdg : decode cc pc = .ok (.anewarray idx, 3))
    (kk : ∀ (q : Nat) (H1 : Heap), Wd D B s (ws ++ [(q, sar dA n (fun _ => none))]) H1 locs → W p l e R s m args below meth c H1 locs (cells + 1) (slots + n) Q (F0 m (pc + 3) ls (.ref q :: rest))) : W p l e R s m args below meth c H locs cells slots Q (F0 m pc ls (.int (nI n) :: rest)) := by
  obtain ⟨hx, hb, hml, hown, hts, hK, hN, hz, hZ, hB, hRf, hRl, hRc, hRs⟩ := C
  refine va_newq hx hb hown (hts _ q0) (hzs.2.2.2.2.2 s hz) hK h.1 h.2.1 h.2.2 (Wd.hA hB) (N' := n) (nI_pos (by omega)) (nI_clamp (by omega)) (by omega) (by rw [hRc]; exact hce) (by rw [hRs]; exact hsl) hdg (fun q cA H1 hK1 hP hD hS => ?_)
  have e1 : cA = dA 5 := by
    have h1 := va_nmO (nm := "[Ljava/lang/String;") (hK1.2 7 (cA, .object "java/lang/String") rfl).2 rfl
    have h2 := va_nmO (nm := "[Ljava/lang/String;") (hK.2 5 (dA 5, .object "java/lang/String") rfl).2 rfl
    exact Option.some.inj (h1.symm.trans h2)
  subst e1
  exact kk q H1 ⟨hP, hD, hS⟩
end SA9
