set_option maxRecDepth 100000
/-! System.arraycopy of int arrays; identities of the second hash -/
section CW88
variable {p : Program} {l : Launch} {e : Env} {R : Room} {s : State} {m : MethodId} {args : Array Value} {below : List Frame} {meth : Method} {c : Code} {H : Heap} {locs : List Loc} {cells slots : Nat} {Q : State → Prop} {cc : ByteArray} {pc : Nat} {ls : Array Slot} {rest : List Value}
variable {nL : Nat} {own : String} {D : va_G} {dA : Nat → ClassId} {B : Nat} {Z : State → Prop} {d mc ms : Nat} {ws ws' : va_W}
theorem x_copyw (C : Cx p R s m args c cc nL own D dA B Z d mc ms) (h : Wd D B s ws H locs) (q1 : Nat) {a0 a n0 n1 sp dp n idx : Nat} {f g : Nat → Int32} (h0 : (a0, war dA n0 f) ∈ ws) (h1 : ws[q1]? = some (a, war dA n1 g)) (hlink : Cond.methodLink own idx arraycopyName ∈ lw_all) (hnat : Cond.native arraycopyName ∈ lw_all) (hstat : Cond.static arraycopyName ∈ lw_all) (hini : Cond.initialized "java/lang/System" ∈ lw_all)
    (h4 : sp + n ≤ n0) (h5 : dp + n ≤ n1) (hn0 : n0 < 2147483648) (hn1 : n1 < 2147483648) (hls : ls.size = nL) (hd : 1 ≤ d) (hroom : (rest.map fun v => v.category).sum ≤ 8) (hw : ws.set q1 (a, war dA n1 (va_cpy f g sp dp n)) = ws')
    (hdg : decode cc pc = .ok (.invokestatic idx, 3)) (kk : ∀ (H1 : Heap) (locs1 : List Loc), Wd D B s ws' H1 locs1 → W p l e R s m args below meth c H1 locs1 cells slots Q (F0 m (pc + 3) ls rest)) : W p l e R s m args below meth c H locs cells slots Q (F0 m pc ls (.int (nI n) :: .int (nI dp) :: .ref a :: .int (nI sp) :: .ref a0 :: rest)) := by
  obtain ⟨hx, hb, hml, hown, hts, hK, hN, hz, hZ, hB, hRf, hRl, hRc, hRs⟩ := C
  obtain ⟨q0, hq⟩ := List.getElem?_of_mem h0
  have e1 : (nI sp).toNatClampNeg = sp := nI_clamp (by omega)
  have e2 : (nI dp).toNatClampNeg = dp := nI_clamp (by omega)
  have e3 : (nI n).toNatClampNeg = n := nI_clamp (by omega)
  refine va_copyi hx hb (hml.trans hls.symm) hown (hts _ hlink) (hts _ hnat) (hts _ hstat) (hts _ hini) hK h.1 h.2.1 h.2.2 q0 q1 0 0 (ty := .int) hq h1 rfl rfl rfl (nI_pos (by omega)) (nI_pos (by omega)) (nI_pos (by omega)) (by rw [e1, e3]; exact h4) (by rw [e2, e3]; exact h5) (fun i _ => rfl) (by rw [hRf]; exact hd) (by rw [hRl]; show _ + (nativeFrameWords "java/lang/System" "arraycopy" 5 + 11) ≤ _; have h40 := nfw_40; omega) hdg (fun H1 locs1 hP hD hS => kk H1 locs1 ?_)
  rw [e1, e2, e3] at hP hD
  rw [← hw]
  exact ⟨hP, hD, hS⟩
theorem i_ch2 (x y z : Int32) : (x &&& y) ^^^ ((x ^^^ (-1)) &&& z) = z ^^^ (x &&& (y ^^^ z)) := by
  apply Int32.toBitVec_inj.mp
  rw [Int32.toBitVec_xor, Int32.toBitVec_and, Int32.toBitVec_and, Int32.toBitVec_xor, Int32.toBitVec_xor, Int32.toBitVec_and, Int32.toBitVec_xor]
  apply BitVec.eq_of_getLsbD_eq
  intro i hi
  have h1 : (Int32.toBitVec (-1)).getLsbD i = true := by
    show (BitVec.allOnes 32).getLsbD i = true
    rw [BitVec.getLsbD_allOnes]; exact decide_eq_true hi
  simp only [BitVec.getLsbD_and, BitVec.getLsbD_xor, h1]
  cases x.toBitVec.getLsbD i <;> cases y.toBitVec.getLsbD i <;> cases z.toBitVec.getLsbD i <;> rfl
theorem i_maj2 (x y z : Int32) : (x &&& y) ^^^ (x &&& z) ^^^ (y &&& z) = (x &&& y) ||| (z &&& (x ||| y)) := by
  apply Int32.toBitVec_inj.mp
  simp only [Int32.toBitVec_or, Int32.toBitVec_and, Int32.toBitVec_xor]
  apply BitVec.eq_of_getLsbD_eq
  intro i hi
  simp only [BitVec.getLsbD_or, BitVec.getLsbD_and, BitVec.getLsbD_xor]
  cases x.toBitVec.getLsbD i <;> cases y.toBitVec.getLsbD i <;> cases z.toBitVec.getLsbD i <;> rfl
theorem mix16b (gw : Nat → Int32) : mixF 16 (sW2 gw) gw = gw := by
  funext j
  unfold mixF
  split
  · next h => exact sW2_lo h
  · rfl
theorem i_ord (a b u v : Int32) : a + u + b + v = a + b + u + v := by rw [Int32.add_assoc a u b, Int32.add_comm u b, ← Int32.add_assoc a b u]
/-- eight words moved up by one, above the place i -/
def upF (i : Nat) (x : Nat → Int32) : Nat → Int32 := fun j => if i < j then x (j - 1) else x j
theorem upF_s {i : Nat} (x : Nat → Int32) (hi : 0 < i) (h8 : i < 8) : ∀ j, j < 8 → upN (upF i x) i (upF i x (i - 1)) j = upF (i - 1) x j := by
  intro j hj
  rw [upN_if]
  split
  · next q => subst q; unfold upF; rw [if_neg (by omega), if_pos (by omega)]
  · next q =>
    unfold upF
    rcases Nat.lt_or_ge i j with q2 | q2
    · rw [if_pos q2, if_pos (by omega)]
    · rw [if_neg (by omega), if_neg (by omega)]
theorem upF_0 (w : Nat → Int32) (k : Nat) (x : Nat → Int32) : ∀ j, j < 8 → upN (upN (upF 0 x) 4 (upF 0 x 4 + one2 w k x)) 0 (new2 w k x) j = st2 w k x j := by
  intro j hj
  rcases (show j = 0 ∨ j = 1 ∨ j = 2 ∨ j = 3 ∨ j = 4 ∨ j = 5 ∨ j = 6 ∨ j = 7 by omega) with rfl | rfl | rfl | rfl | rfl | rfl | rfl | rfl <;> rfl
theorem cpy8 (x g : Nat → Int32) : ∀ j, j < 8 → va_cpy x g 0 0 8 j = x j := by
  intro j hj
  unfold va_cpy
  rw [if_pos ⟨Nat.zero_le _, by omega⟩]
  congr 1
  omega
theorem n_walen (C : Cx p R s m args c cc nL own D dA B Z d mc ms) (h : Wd D B s ws H locs) {a n : Nat} {g : Nat → Int32} (hm : (a, war dA n g) ∈ ws) (hdg : decode cc pc = .ok (.arraylength, 1))
    (kk : W p l e R s m args below meth c H locs cells slots Q (F0 m (pc + 1) ls (.int (nI n) :: rest))) : W p l e R s m args below meth c H locs cells slots Q (F0 m pc ls (.ref a :: rest)) := by
  obtain ⟨hx, hb, hml, hown, hts, hK, hN, hz, hZ, hB, hRf, hRl, hRc, hRs⟩ := C
  obtain ⟨q0, hq⟩ := List.getElem?_of_mem hm
  exact va_alen (v := nI n) hx hb hK h.1 q0 0 hq rfl rfl hdg kk
end CW88
