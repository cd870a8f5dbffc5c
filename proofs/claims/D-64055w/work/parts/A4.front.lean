set_option maxRecDepth 100000
/-! rows of bytes that lie below B: the fronts -/
def ZB9 (B t : Nat) (nm : String) (l : List Nat) (Z : State → Prop) : Prop := (∀ U : State, Z U → va_Z "SignetRing" nm "[B" (.ref t) (bA B) U U.heap) ∧ ∀ U : State, Z U → va_T .byte t l.length (fun j => .int (sb_b (gD l j))) (bA B) U U.heap
def ZF (B f1 f2 : Nat) (Z : State → Prop) : Prop := ZB9 B f1 "FRONT1" (frontL 2) Z ∧ ZB9 B f2 "FRONT2" (frontL 8) Z
section ZF9
variable {p : Program} {l : Launch} {e : Env} {R : Room} {s : State} {m : MethodId} {args : Array Value} {below : List Frame} {meth : Method} {c : Code} {H : Heap} {locs : List Loc} {cells slots : Nat} {Q : State → Prop} {cc : ByteArray} {pc : Nat} {ls : Array Slot} {rest : List Value}
variable {nL : Nat} {own : String} {D : va_G} {dA : Nat → ClassId} {B : Nat} {Z : State → Prop} {d mc ms : Nat} {ws ws' F : va_W}
theorem z_lenB (C : Cx p R s m args c cc nL own D dA B Z d mc ms) (h : Wd D B s ws H locs) {t : Nat} {nm : String} {lt : List Nat} (hza : ZB9 B t nm lt Z) (hdg : decode cc pc = .ok (.arraylength, 1))
    (kk : W p l e R s m args below meth c H locs cells slots Q (F0 m (pc + 1) ls (.int (nI lt.length) :: rest))) : W p l e R s m args below meth c H locs cells slots Q (F0 m pc ls (.ref t :: rest)) := by
  obtain ⟨hx, hb, hml, hown, hts, hK, hN, hz, hZ, hB, hRf, hRl, hRc, hRs⟩ := C
  exact va_tlen (v := nI lt.length) hx hb (hza.2 s hz) h.2.2 rfl hdg kk
theorem z_copyB (C : Cx p R s m args c cc nL own D dA B Z d mc ms) (h : Wd D B s ws H locs) (q1 : Nat) {a0 a n1 dp n idx : Nat} {nm : String} {lt : List Nat} {g : Nat → Nat} (h0 : ZB9 B a0 nm lt Z) (h1 : ws[q1]? = some (a, bar dA n1 g)) (hlink : Cond.methodLink own idx arraycopyName ∈ lw_all) (hnat : Cond.native arraycopyName ∈ lw_all) (hstat : Cond.static arraycopyName ∈ lw_all) (hini : Cond.initialized "java/lang/System" ∈ lw_all)
    (hn : n = lt.length) (h5 : dp + n ≤ n1) (hn0 : lt.length < 2147483648) (hn1 : n1 < 2147483648) (hls : ls.size = nL) (hd : 1 ≤ d) (hroom : (rest.map fun v => v.category).sum ≤ 8) (hw : ws.set q1 (a, bar dA n1 (va_cpy (gD lt) g 0 dp n)) = ws')
    (hdg : decode cc pc = .ok (.invokestatic idx, 3)) (kk : ∀ (H1 : Heap) (locs1 : List Loc), Wd D B s ws' H1 locs1 → W p l e R s m args below meth c H1 locs1 cells slots Q (F0 m (pc + 3) ls rest)) : W p l e R s m args below meth c H locs cells slots Q (F0 m pc ls (.int (nI n) :: .int (nI dp) :: .ref a :: .int (nI 0) :: .ref a0 :: rest)) := by
  obtain ⟨hx, hb, hml, hown, hts, hK, hN, hz, hZ, hB, hRf, hRl, hRc, hRs⟩ := C
  have e1 : (nI 0).toNatClampNeg = 0 := nI_clamp (by omega)
  have e2 : (nI dp).toNatClampNeg = dp := nI_clamp (by omega)
  have e3 : (nI n).toNatClampNeg = n := nI_clamp (by omega)
  refine vk_copyt hx hb (hml.trans hls.symm) hown (hts _ hlink) (hts _ hnat) (hts _ hstat) (hts _ hini) hK h.1 h.2.1 h.2.2 (f := fun j => sb_b (gD lt j)) (h0.2 s hz) q1 1 h1 rfl (nI_pos (by omega)) (nI_pos (by omega)) (nI_pos (by omega)) (by rw [e1, e3]; omega) (by rw [e2, e3]; exact h5) (fun i _ => sb_fit _) (by rw [hRf]; exact hd) (by rw [hRl]; show _ + (nativeFrameWords "java/lang/System" "arraycopy" 5 + 11) ≤ _; have h40 := nfw_40; omega) hdg (fun H1 locs1 hP hD hS => kk H1 locs1 ?_)
  rw [e1, e2, e3] at hP hD
  have e4 : va_cpy (fun j => sb_b (gD lt j)) (fun j => sb_b (g j)) 0 dp n = fun j => sb_b (va_cpy (gD lt) g 0 dp n j) := by
    funext j; unfold va_cpy; split <;> rfl
  rw [e4] at hP hD
  rw [← hw]
  exact ⟨hP, hD, hS⟩
end ZF9
def flF (g : Nat → Nat) (fr to : Nat) : Nat → Nat := fun j => if fr ≤ j ∧ j < to then 255 else g j
/-- what padded builds is padL -/
theorem pad_eq {fr dg : List Nat} {gd : Nat → Nat} {n lf : Nat} (hl : lf + 3 + fr.length + dg.length = n) (hg : ∀ j, j < dg.length → gd j = gD dg j) {j : Nat} (hj : j < n) : va_cpy gd (va_cpy (gD fr) (upN (flF (fun _ => 0) 2 (2 + lf)) 1 1) 0 (3 + lf) fr.length) 0 (n - dg.length) dg.length j = gD (padL fr dg n) j := by
  have e0 : gD (padL fr dg n) j = padF fr dg n j := by
    unfold padL
    unfold gD
    rw [List.getD_eq_getElem?_getD]
    unfold sl
    rw [List.getElem?_map, List.getElem?_range hj]
    show padF fr dg n (0 + j) = _
    rw [Nat.zero_add]
  rw [e0]
  unfold padF va_cpy flF
  rw [upN_if]
  by_cases a1 : n - dg.length ≤ j
  · rw [if_pos ⟨a1, by omega⟩, if_neg (by omega), if_neg (by omega), if_neg (by omega), if_neg (by omega), if_neg (by omega)]
    rw [hg _ (by omega)]
    congr 1
    omega
  · rw [if_neg (by omega)]
    by_cases a2 : 3 + lf ≤ j
    · rw [if_pos ⟨a2, by omega⟩, if_neg (by omega), if_neg (by omega), if_neg (by omega), if_neg (by omega), if_pos (by omega)]
      congr 1
      omega
    · rw [if_neg (by omega)]
      by_cases a3 : j = 1
      · rw [if_pos a3, if_neg (by omega), if_pos a3]
      · rw [if_neg a3]
        by_cases a4 : j = 0
        · rw [if_neg (by omega), if_pos a4]
        · rw [if_neg a4, if_neg a3]
          by_cases a5 : j < 2 + lf
          · rw [if_pos ⟨by omega, a5⟩, if_pos (by omega)]
          · rw [if_neg (by omega), if_neg (by omega), if_pos (by omega)]
