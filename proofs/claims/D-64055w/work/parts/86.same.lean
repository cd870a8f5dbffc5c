set_option maxRecDepth 100000
/-! fields of a class above -/
section SF86
variable {p : Program} {l : Launch} {e : Env} {R : Room} {s : State} {m : MethodId} {args : Array Value} {below : List Frame} {meth : Method} {c : Code} {H : Heap} {locs : List Loc} {cells slots : Nat} {Q : State → Prop} {cc : ByteArray} {pc : Nat} {ls : Array Slot} {rest : List Value}
variable {nL : Nat} {own : String} {D : va_G} {dA : Nat → ClassId} {B : Nat} {Z : State → Prop} {d mc ms : Nat} {ws ws' : va_W}
theorem o_getS (C : Cx p R s m args c cc nL own D dA B Z d mc ms) (h : Wd D B s ws H locs) {a ci idx N : Nat} {fs : List Value} {RC ref : String} {T : u_T} (hm : (a, .inr (ci, fs)) ∈ ws) (hc : vwCl[ci]? = some (RC, T, N)) (hin : ∀ w ∈ u_ws RC T N, w ∈ lw_all) (k : Nat) (hk : k < N) (q : Cond.fieldLink own idx ref (T k).2.1 (T k).2.2.1 ∈ lw_all) (hT : Cond.sameField ref (T k).1 (T k).2.1 (T k).2.2.1 ∈ lw_all) {v : Value} (hv : fs[k]? = some v)
    (hdg : decode cc pc = .ok (.getfield idx, 3)) (kk : W p l e R s m args below meth c H locs cells slots Q (F0 m (pc + 3) ls (v :: rest))) : W p l e R s m args below meth c H locs cells slots Q (F0 m pc ls (.ref a :: rest)) := by
  obtain ⟨hx, hb, hml, hown, hts, hK, hN, hz, hZ, hB, hRf, hRl, hRc, hRs⟩ := C
  obtain ⟨q0, hq⟩ := List.getElem?_of_mem hm
  exact va_get (D := D) (ci := ci) (C := RC) (T := T) (N := N) hx hb hts hin hown hK h.1 q0 hq hc k hk (hts _ q) (fun x h9 => u_same (hts _ hT) x h9) hv hdg kk
theorem o_putS (C : Cx p R s m args c cc nL own D dA B Z d mc ms) (h : Wd D B s ws H locs) (q0 : Nat) {a ci idx N : Nat} {fs : List Value} {RC ref : String} {T : u_T} {ty0 : Nat → FieldType} (hm : ws[q0]? = some (a, .inr (ci, fs))) (hc : vwCl[ci]? = some (RC, T, N)) (hin : ∀ w ∈ u_ws RC T N, w ∈ lw_all) (hty : ∀ k, k < N → parseFieldDescriptor (T k).2.2.1 = some (ty0 k)) (hnm : ∀ a, a < N → ∀ b, b < N → a ≠ b → (T a).2.1 ≠ (T b).2.1) (k : Nat) (hk : k < N) (q : Cond.fieldLink own idx ref (T k).2.1 (T k).2.2.1 ∈ lw_all) (hT : Cond.sameField ref (T k).1 (T k).2.1 (T k).2.2.1 ∈ lw_all) (hf : (T k).2.2.2 = false) {v : Value} (hn : narrow (ty0 k) v = v) (hfit : fits (ty0 k) v = true) (hl : k < fs.length) (hw : ws.set q0 (a, .inr (ci, fs.set k v)) = ws')
    (hdg : decode cc pc = .ok (.putfield idx, 3)) (kk : ∀ (H1 : Heap) (locs1 : List Loc), Wd D B s ws' H1 locs1 → W p l e R s m args below meth c H1 locs1 cells slots Q (F0 m (pc + 3) ls rest)) : W p l e R s m args below meth c H locs cells slots Q (F0 m pc ls (v :: .ref a :: rest)) := by
  obtain ⟨hx, hb, hml, hown, hts, hK, hN, hz, hZ, hB, hRf, hRl, hRc, hRs⟩ := C
  refine va_put (D := D) (ci := ci) (C := RC) (T := T) (N := N) (ty := ty0 k) hx hb hts hin ty0 hty hnm hown hK h.1 h.2.1 h.2.2 q0 hm hc k hk (hts _ q) (fun x h9 => u_same (hts _ hT) x h9) hf (hty k hk) hn hfit hl hdg (fun H1 locs1 hP hD hS => kk H1 locs1 ?_)
  rw [hw] at hP hD
  exact ⟨hP, hD, hS⟩
end SF86
