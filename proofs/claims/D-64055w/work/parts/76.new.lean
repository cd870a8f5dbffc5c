set_option maxRecDepth 100000
/-! new arrays of longs, truths, rows; an object of the model while it is made -/
theorem arrA_args {a : Array Value} {U : State} (h : (Cond.arrayOver (.array .int)).before #[] U = true) : (Cond.arrayOver (.array .int)).before a U = true := h
section NW76
variable {p : Program} {l : Launch} {e : Env} {R : Room} {s : State} {m : MethodId} {args : Array Value} {below : List Frame} {meth : Method} {c : Code} {H : Heap} {locs : List Loc} {cells slots : Nat} {Q : State → Prop} {cc : ByteArray} {pc : Nat} {ls : Array Slot} {rest : List Value}
variable {nL : Nat} {own : String} {D : va_G} {dA : Nat → ClassId} {B : Nat} {Z : State → Prop} {d mc ms : Nat} {ws : va_W}
theorem n_newl (C : Cx p R s m args c cc nL own D dA B Z d mc ms) (h : Wd D B s ws H locs) {n : Nat} (hn : n < 60000000) (hce : cells + 1 ≤ mc) (hsl : slots + n ≤ ms) (hdg : decode cc pc = .ok (.newarray .long, 2))
    (kk : ∀ (q : Nat) (H1 : Heap), Wd D B s (ws ++ [(q, lar dA n (fun _ => 0))]) H1 locs → W p l e R s m args below meth c H1 locs (cells + 1) (slots + n) Q (F0 m (pc + 2) ls (.ref q :: rest))) : W p l e R s m args below meth c H locs cells slots Q (F0 m pc ls (.int (nI n) :: rest)) := by
  obtain ⟨hx, hb, hml, hown, hts, hK, hN, hz, hZ, hB, hRf, hRl, hRc, hRs⟩ := C
  refine va_newa (atype := .long) (ty := .long) (N' := n) (a0 := (n, .inr (.inl (fun _ => lN 0)))) hx hb (hts _ q2093) rfl hK h.1 h.2.1 h.2.2 (Wd.hA hB) (fun cA => rfl) (nI_pos (by omega)) (nI_clamp (by omega)) (by show n * 8 ≤ 536870912; omega) (by rw [hRc]; exact hce) (by rw [hRs]; exact hsl) hdg (fun q cA H1 hK1 hP hD hS => ?_)
  have e1 : cA = dA 2 := by
    have h1 := (hK1.2 7 (cA, .long) rfl).2
    have h2 := (hK.2 2 (dA 2, .long) rfl).2
    exact Option.some.inj (h1.symm.trans h2)
  subst e1
  exact kk q H1 ⟨hP, hD, hS⟩
theorem n_newz (C : Cx p R s m args c cc nL own D dA B Z d mc ms) (h : Wd D B s ws H locs) {n : Nat} (hn : n < 134217728) (hce : cells + 1 ≤ mc) (hsl : slots + n ≤ ms) (hdg : decode cc pc = .ok (.newarray .boolean, 2))
    (kk : ∀ (q : Nat) (H1 : Heap), Wd D B s (ws ++ [(q, zar dA n (fun _ => 0))]) H1 locs → W p l e R s m args below meth c H1 locs (cells + 1) (slots + n) Q (F0 m (pc + 2) ls (.ref q :: rest))) : W p l e R s m args below meth c H locs cells slots Q (F0 m pc ls (.int (nI n) :: rest)) := by
  obtain ⟨hx, hb, hml, hown, hts, hK, hN, hz, hZ, hB, hRf, hRl, hRc, hRs⟩ := C
  refine va_newa (atype := .boolean) (ty := .boolean) (N' := n) (a0 := (n, .inl (fun _ => nI 0))) hx hb (hts _ q2094) rfl hK h.1 h.2.1 h.2.2 (Wd.hA hB) (fun cA => rfl) (nI_pos (by omega)) (nI_clamp (by omega)) (by show n * 1 ≤ 536870912; omega) (by rw [hRc]; exact hce) (by rw [hRs]; exact hsl) hdg (fun q cA H1 hK1 hP hD hS => ?_)
  have e1 : cA = dA 3 := by
    have h1 := (hK1.2 7 (cA, .boolean) rfl).2
    have h2 := (hK.2 3 (dA 3, .boolean) rfl).2
    exact Option.some.inj (h1.symm.trans h2)
  subst e1
  exact kk q H1 ⟨hP, hD, hS⟩
theorem n_newr (C : Cx p R s m args c cc nL own D dA B Z d mc ms) (h : Wd D B s ws H locs) {n idx : Nat} (hzs : ZS dA B Z) (q0 : Cond.classLink own idx "[I" ∈ lw_all) (hn : n < 134217728) (hce : cells + 1 ≤ mc) (hsl : slots + n ≤ ms) (hdg : decode cc pc = .ok (.anewarray idx, 3))
    (kk : ∀ (q : Nat) (H1 : Heap), Wd D B s (ws ++ [(q, aar dA n (fun _ => none))]) H1 locs → W p l e R s m args below meth c H1 locs (cells + 1) (slots + n) Q (F0 m (pc + 3) ls (.ref q :: rest))) : W p l e R s m args below meth c H locs cells slots Q (F0 m pc ls (.int (nI n) :: rest)) := by
  obtain ⟨hx, hb, hml, hown, hts, hK, hN, hz, hZ, hB, hRf, hRl, hRc, hRs⟩ := C
  have hcl : (nI n).toNatClampNeg = n := nI_clamp (by omega)
  refine W.anewA (t := .int) hx hb hown (hts _ q0) (arrA_args (hzs.2.2.2.1 s hz)) rfl hdg rfl (nI_pos (by omega)) (by rw [hcl]; omega) (by rw [hRc]; exact hce) (by rw [hcl, hRs]; exact hsl) (fun cA kA comp f1 f2 f3 f4 => ?_)
  rw [hcl]
  obtain ⟨hP, hD, hS⟩ := h
  have eA : cA = dA 6 := by
    have h2 := (hK.2 6 (dA 6, .array .int) rfl).2
    exact Option.some.inj (f1.symm.trans h2)
  subst eA
  generalize hH1 : H.push ({ cls := dA 6, slots := Array.replicate n .null, vm := .none } : Cell) = H1
  have z1 : H1.size = H.size + 1 := by rw [← hH1, Array.size_push]
  have e1 : H1[H.size]? = some (arrV (dA 6) n (fun _ => .null)) := by rw [← hH1, Array.getElem?_push_size, ← arrV_new]
  have o1 : ∀ q : Nat, q < H.size → H1[q]? = H[q]? := fun q hq => by rw [← hH1, Array.getElem?_push, if_neg (Nat.ne_of_lt hq)]
  have hk : ∀ (k : Nat) (x : Nat × va_E), ws[k]? = some x → H1[x.1]? = H[x.1]? := fun k x hx => o1 x.1 ((hP k x hx).lt)
  refine kk H.size H1 ⟨(hP.kept hk).app (fun k x hx => ?_), hD.push hP rfl (Wd.hA hB _ hS.1), ⟨Nat.le_trans hS.1 (by omega), fun x h1 h2 => (o1 x (Nat.lt_of_lt_of_le h1 hS.1)).trans (hS.2.1 x h1 h2), hS.2.2⟩⟩
  have hz9 : k < 1 := (List.getElem?_eq_some_iff.mp hx).1
  rw [show k = 0 by omega] at hx
  cases hx
  exact e1
theorem c_put (C : Cx p R s m args c cc nL RX7 D dA B Z d mc ms) {h0 : Nat} {f : Nat → Value} (h : Wd D B s ([(h0, .inr (5, flv 74 f))] ++ ws) H locs) (k : Nat) {idx : Nat} (hk : k < 74) (hi : meth.name = "<init>") (hT : (TX7 k).1 = RX7) (q : Cond.fieldLink RX7 idx RX7 (TX7 k).2.1 (TX7 k).2.2.1 ∈ lw_all) {v : Value} (hn : narrow (tyX7 k) v = v) (hfit : fits (tyX7 k) v = true) (hdg : decode cc pc = .ok (.putfield idx, 3))
    (kk : ∀ (H1 : Heap) (locs1 : List Loc), Wd D B s ([(h0, .inr (5, flv 74 (upN f k v)))] ++ ws) H1 locs1 → W p l e R s m args below meth c H1 locs1 cells slots Q (F0 m (pc + 3) ls rest)) : W p l e R s m args below meth c H locs cells slots Q (F0 m pc ls (v :: .ref h0 :: rest)) := by
  have hw : (([(h0, .inr (5, flv 74 f))] : va_W) ++ ws).set 0 (h0, .inr (5, (flv 74 f).set k v)) = ([(h0, .inr (5, flv 74 (upN f k v)))] : va_W) ++ ws := by rw [flv_set]; rfl
  cases hf : (TX7 k).2.2.2 with
  | true => exact o_putF C h 0 (RC := RX7) (T := TX7) (N := 74) rfl rfl in_X7 tyX7_ok nmX7 k hk q hT hf hi hT hn hfit (by rw [flv_len]; exact hk) hw hdg kk
  | false => exact o_put C h 0 (RC := RX7) (T := TX7) (N := 74) rfl rfl in_X7 tyX7_ok nmX7 k hk q hT hf hn hfit (by rw [flv_len]; exact hk) hw hdg kk
end NW76
/-- an object of the model before it is made, and what is made of it -/
def mf0 (k : Nat) : Value := match mkk k with
  | 0 => .int 0
  | 1 => .long 0
  | _ => .null
def mz (ad : Nat → Nat) : MS := (fun _ => 0, fun _ => 0, fun k => bif [13, 14, 15, 17, 18, 19].contains k then some (ad k) else none, fun _ _ => 0, fun _ _ => 0, fun _ _ => none)
theorem mz_st (dA : Nat → ClassId) (F : va_W) (ad : Nat → Nat) : MSt dA F ad (mz ad) [] [] [] [] :=
  ⟨⟨rfl, fun j hj => absurd hj (Nat.not_lt_zero _), fun x hx => absurd hx List.not_mem_nil, Nat.zero_le _⟩, ⟨rfl, fun j hj => absurd hj (Nat.not_lt_zero _), fun x hx => absurd hx List.not_mem_nil, Nat.zero_le _⟩, ⟨rfl, fun j hj => absurd hj (Nat.not_lt_zero _), fun x hx => absurd hx List.not_mem_nil, Nat.zero_le _⟩, ⟨(fun j p hj => by cases hj), rfl, fun x hx => absurd hx List.not_mem_nil⟩, ⟨rfl, rfl, rfl, rfl, rfl, rfl⟩, ⟨fun j => (by decide : (0 : Nat) < 256), fun _ => false, fun _ _ => rfl, rfl⟩, fun j => (by decide : (0 : Nat) < 256), 0, 0, rfl, rfl⟩
