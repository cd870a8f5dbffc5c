set_option maxRecDepth 100000
/-! worlds up to order; objects and byte arrays anywhere; strings -/
theorem perm_add {α : Type} {l k : List α} (h : ∀ (g : α → Nat) (f : List α → Nat), f [] = 0 → (∀ x l, f (x :: l) = g x + f l) → (∀ a b, f (a ++ b) = f a + f b) → f l = f k) : l.Perm k := by
  classical
  refine List.perm_iff_count.mpr (fun a => ?_)
  refine h (fun x => if x == a then 1 else 0) (List.count a) rfl (fun x l => ?_) (fun x y => List.count_append ..)
  rw [List.count_cons, Nat.add_comm]
def bar (dA : Nat → ClassId) (n : Nat) (g : Nat → Nat) : va_E := .inl (dA 1, n, .inl (fun j => sb_b (g j)))
abbrev bal (dA : Nat → ClassId) (l : List Nat) : va_E := bar dA l.length (gD l)
def oar (dA : Nat → ClassId) (n : Nat) (g : Nat → Option Nat) : va_E := .inl (dA 4, n, .inr (.inr (.inr (.inr g))))
def sar (dA : Nat → ClassId) (n : Nat) (g : Nat → Option Nat) : va_E := .inl (dA 5, n, .inr (.inr (.inr (.inr g))))
theorem nfw_40 : nativeFrameWords "java/lang/System" "arraycopy" 5 ≤ 40 := by decide
theorem sb_fit (n : Nat) : fits .byte (.int (sb_b n)) = true := by
  show fits .byte (.int (nI n).toInt8.toInt32) = true
  generalize (nI n).toInt8 = x
  have h1 := x.toInt_lt
  have h2 := x.le_toInt
  simp only [fits]
  have h3 : x.toInt32.toInt = x.toInt := Int8.toInt_toInt32 x
  simp [Int32.le_iff_toInt_le, h3]
  omega
/-! contents that are the same -/
def sameE (e e' : va_E) : Prop := ∀ (D : va_G) (cl : List vw_C) (a : Nat) (H : Heap), va_at D cl (a, e) H → va_at D cl (a, e') H
theorem arrV_ext {cI : ClassId} {N : Nat} {f g : Nat → Value} (h : ∀ j, j < N → f j = g j) : arrV cI N f = arrV cI N g := by
  unfold arrV
  congr 1
  apply Array.ext
  · simp
  · intro i h1 h2
    simp only [Array.getElem_ofFn]
    exact h i (by simpa using h1)
theorem bar_same {dA : Nat → ClassId} {n : Nat} {g g' : Nat → Nat} (h : ∀ j, j < n → g j = g' j) : sameE (bar dA n g) (bar dA n g') := by
  intro D cl a H h1
  have e1 : arrV (dA 1) n (fun j => .int (sb_b (g j))) = arrV (dA 1) n (fun j => .int (sb_b (g' j))) := arrV_ext (fun j hj => by rw [h j hj])
  show H[a]? = some (arrV (dA 1) n (fun j => .int (sb_b (g' j))))
  rw [← e1]; exact h1
theorem iar_same {dA : Nat → ClassId} {n : Nat} {g g' : Nat → Nat} (h : ∀ j, j < n → g j = g' j) : sameE (iar dA n g) (iar dA n g') := by
  intro D cl a H h1
  have e1 : arrV (dA 0) n (fun j => .int (nI (g j))) = arrV (dA 0) n (fun j => .int (nI (g' j))) := arrV_ext (fun j hj => by rw [h j hj])
  show H[a]? = some (arrV (dA 0) n (fun j => .int (nI (g' j))))
  rw [← e1]; exact h1
theorem war_same {dA : Nat → ClassId} {n : Nat} {g g' : Nat → Int32} (h : ∀ j, j < n → g j = g' j) : sameE (war dA n g) (war dA n g') := by
  intro D cl a H h1
  have e1 : arrV (dA 0) n (fun j => .int (g j)) = arrV (dA 0) n (fun j => .int (g' j)) := arrV_ext (fun j hj => by rw [h j hj])
  show H[a]? = some (arrV (dA 0) n (fun j => .int (g' j)))
  rw [← e1]; exact h1
theorem oar_same {dA : Nat → ClassId} {n : Nat} {g g' : Nat → Option Nat} (h : ∀ j, j < n → g j = g' j) : sameE (oar dA n g) (oar dA n g') := by
  intro D cl a H h1
  have e1 : arrV (dA 4) n (fun j => va_rf (g j)) = arrV (dA 4) n (fun j => va_rf (g' j)) := arrV_ext (fun j hj => by rw [h j hj])
  show H[a]? = some (arrV (dA 4) n (fun j => va_rf (g' j)))
  rw [← e1]; exact h1
theorem Wd.same {D : va_G} {B : Nat} {s : State} {ws ws' : va_W} {H : Heap} {locs : List Loc} (h : Wd D B s ws H locs) (i : Nat) {a : Nat} {e e' : va_E} (hm : ws[i]? = some (a, e)) (hs : sameE e e') (hw : ws.set i (a, e') = ws') : Wd D B s ws' H locs := by
  subst hw
  refine ⟨fun k q hk => ?_, h.2.1.set hm, h.2.2⟩
  rw [List.getElem?_set] at hk
  split at hk
  · next e1 =>
    split at hk
    · cases hk; exact hs _ _ _ _ (h.1 i _ hm)
    · cases hk
  · exact h.1 k q hk
section XR
variable {p : Program} {l : Launch} {e : Env} {R : Room} {s : State} {m : MethodId} {args : Array Value} {below : List Frame} {meth : Method} {c : Code} {H : Heap} {locs : List Loc} {cells slots : Nat} {Q : State → Prop} {cc : ByteArray} {pc : Nat} {ls : Array Slot} {rest : List Value}
variable {nL : Nat} {own : String} {D : va_G} {dA : Nat → ClassId} {B : Nat} {Z : State → Prop} {d mc ms : Nat} {ws ws' F : va_W}

theorem o_get (C : Cx p R s m args c cc nL own D dA B Z d mc ms) (h : Wd D B s ws H locs) {a ci idx N : Nat} {fs : List Value} {RC ref : String} {T : u_T} (hm : (a, .inr (ci, fs)) ∈ ws) (hc : vwCl[ci]? = some (RC, T, N)) (hin : ∀ w ∈ u_ws RC T N, w ∈ lw_all) (k : Nat) (hk : k < N) (q : Cond.fieldLink own idx ref (T k).2.1 (T k).2.2.1 ∈ lw_all) (hT : (T k).1 = ref) {v : Value} (hv : fs[k]? = some v)
    (hdg : decode cc pc = .ok (.getfield idx, 3)) (kk : W p l e R s m args below meth c H locs cells slots Q (F0 m (pc + 3) ls (v :: rest))) : W p l e R s m args below meth c H locs cells slots Q (F0 m pc ls (.ref a :: rest)) := by
  obtain ⟨hx, hb, hml, hown, hts, hK, hN, hz, hZ, hB, hRf, hRl, hRc, hRs⟩ := C
  obtain ⟨q0, hq⟩ := List.getElem?_of_mem hm
  exact va_get (D := D) (ci := ci) (C := RC) (T := T) (N := N) hx hb hts hin hown hK h.1 q0 hq hc k hk (hts _ q) (fun _ h9 => hT ▸ h9) hv hdg kk
theorem o_getN (C : Cx p R s m args c cc nL own D dA B Z d mc ms) (h : Wd D B s ws H locs) {a ci idx N : Nat} {fs : List Value} {RC ref host : String} {T : u_T} (hm : (a, .inr (ci, fs)) ∈ ws) (hc : vwCl[ci]? = some (RC, T, N)) (hin : ∀ w ∈ u_ws RC T N, w ∈ lw_all) (k : Nat) (hk : k < N) (q : Cond.fieldLinkNest own idx ref (T k).2.1 (T k).2.2.1 host ∈ lw_tbl) (hT : (T k).1 = ref) {v : Value} (hv : fs[k]? = some v)
    (hdg : decode cc pc = .ok (.getfield idx, 3)) (kk : W p l e R s m args below meth c H locs cells slots Q (F0 m (pc + 3) ls (v :: rest))) : W p l e R s m args below meth c H locs cells slots Q (F0 m pc ls (.ref a :: rest)) := by
  obtain ⟨hx, hb, hml, hown, hts, hK, hN, hz, hZ, hB, hRf, hRl, hRc, hRs⟩ := C
  obtain ⟨q0, hq⟩ := List.getElem?_of_mem hm
  exact va_getN (D := D) (ci := ci) (C := RC) (T := T) (N := N) hx hb hts hin hown hK h.1 q0 hq hc k hk ((hN _ q rfl).use rfl) (fun _ h9 => hT ▸ h9) hv hdg kk
theorem o_put (C : Cx p R s m args c cc nL own D dA B Z d mc ms) (h : Wd D B s ws H locs) (q0 : Nat) {a ci idx N : Nat} {fs : List Value} {RC ref : String} {T : u_T} {ty0 : Nat → FieldType} (hm : ws[q0]? = some (a, .inr (ci, fs))) (hc : vwCl[ci]? = some (RC, T, N)) (hin : ∀ w ∈ u_ws RC T N, w ∈ lw_all) (hty : ∀ k, k < N → parseFieldDescriptor (T k).2.2.1 = some (ty0 k)) (hnm : ∀ a, a < N → ∀ b, b < N → a ≠ b → (T a).2.1 ≠ (T b).2.1) (k : Nat) (hk : k < N) (q : Cond.fieldLink own idx ref (T k).2.1 (T k).2.2.1 ∈ lw_all) (hT : (T k).1 = ref) (hf : (T k).2.2.2 = false) {v : Value} (hn : narrow (ty0 k) v = v) (hfit : fits (ty0 k) v = true) (hl : k < fs.length) (hw : ws.set q0 (a, .inr (ci, fs.set k v)) = ws')
    (hdg : decode cc pc = .ok (.putfield idx, 3)) (kk : ∀ (H1 : Heap) (locs1 : List Loc), Wd D B s ws' H1 locs1 → W p l e R s m args below meth c H1 locs1 cells slots Q (F0 m (pc + 3) ls rest)) : W p l e R s m args below meth c H locs cells slots Q (F0 m pc ls (v :: .ref a :: rest)) := by
  obtain ⟨hx, hb, hml, hown, hts, hK, hN, hz, hZ, hB, hRf, hRl, hRc, hRs⟩ := C
  refine va_put (D := D) (ci := ci) (C := RC) (T := T) (N := N) (ty := ty0 k) hx hb hts hin ty0 hty hnm hown hK h.1 h.2.1 h.2.2 q0 hm hc k hk (hts _ q) (fun _ h9 => hT ▸ h9) hf (hty k hk) hn hfit hl hdg (fun H1 locs1 hP hD hS => kk H1 locs1 ?_)
  rw [hw] at hP hD
  exact ⟨hP, hD, hS⟩
theorem o_putN (C : Cx p R s m args c cc nL own D dA B Z d mc ms) (h : Wd D B s ws H locs) (q0 : Nat) {a ci idx N : Nat} {fs : List Value} {RC ref host : String} {T : u_T} {ty0 : Nat → FieldType} (hm : ws[q0]? = some (a, .inr (ci, fs))) (hc : vwCl[ci]? = some (RC, T, N)) (hin : ∀ w ∈ u_ws RC T N, w ∈ lw_all) (hty : ∀ k, k < N → parseFieldDescriptor (T k).2.2.1 = some (ty0 k)) (hnm : ∀ a, a < N → ∀ b, b < N → a ≠ b → (T a).2.1 ≠ (T b).2.1) (k : Nat) (hk : k < N) (q : Cond.fieldLinkNest own idx ref (T k).2.1 (T k).2.2.1 host ∈ lw_tbl) (hT : (T k).1 = ref) (hf : (T k).2.2.2 = false) {v : Value} (hn : narrow (ty0 k) v = v) (hfit : fits (ty0 k) v = true) (hl : k < fs.length) (hw : ws.set q0 (a, .inr (ci, fs.set k v)) = ws')
    (hdg : decode cc pc = .ok (.putfield idx, 3)) (kk : ∀ (H1 : Heap) (locs1 : List Loc), Wd D B s ws' H1 locs1 → W p l e R s m args below meth c H1 locs1 cells slots Q (F0 m (pc + 3) ls rest)) : W p l e R s m args below meth c H locs cells slots Q (F0 m pc ls (v :: .ref a :: rest)) := by
  obtain ⟨hx, hb, hml, hown, hts, hK, hN, hz, hZ, hB, hRf, hRl, hRc, hRs⟩ := C
  refine va_putN (D := D) (ci := ci) (C := RC) (T := T) (N := N) (ty := ty0 k) hx hb hts hin ty0 hty hnm hown hK h.1 h.2.1 h.2.2 q0 hm hc k hk ((hN _ q rfl).use rfl) (fun _ h9 => hT ▸ h9) hf (hty k hk) hn hfit hl hdg (fun H1 locs1 hP hD hS => kk H1 locs1 ?_)
  rw [hw] at hP hD
  exact ⟨hP, hD, hS⟩
theorem o_putF (C : Cx p R s m args c cc nL own D dA B Z d mc ms) (h : Wd D B s ws H locs) (q0 : Nat) {a ci idx N : Nat} {fs : List Value} {RC ref : String} {T : u_T} {ty0 : Nat → FieldType} (hm : ws[q0]? = some (a, .inr (ci, fs))) (hc : vwCl[ci]? = some (RC, T, N)) (hin : ∀ w ∈ u_ws RC T N, w ∈ lw_all) (hty : ∀ k, k < N → parseFieldDescriptor (T k).2.2.1 = some (ty0 k)) (hnm : ∀ a, a < N → ∀ b, b < N → a ≠ b → (T a).2.1 ≠ (T b).2.1) (k : Nat) (hk : k < N) (q : Cond.fieldLink own idx ref (T k).2.1 (T k).2.2.1 ∈ lw_all) (hT : (T k).1 = ref) (hf : (T k).2.2.2 = true) (hin2 : meth.name = "<init>") (hdecl : (T k).1 = own) {v : Value} (hn : narrow (ty0 k) v = v) (hfit : fits (ty0 k) v = true) (hl : k < fs.length) (hw : ws.set q0 (a, .inr (ci, fs.set k v)) = ws')
    (hdg : decode cc pc = .ok (.putfield idx, 3)) (kk : ∀ (H1 : Heap) (locs1 : List Loc), Wd D B s ws' H1 locs1 → W p l e R s m args below meth c H1 locs1 cells slots Q (F0 m (pc + 3) ls rest)) : W p l e R s m args below meth c H locs cells slots Q (F0 m pc ls (v :: .ref a :: rest)) := by
  obtain ⟨hx, hb, hml, hown, hts, hK, hN, hz, hZ, hB, hRf, hRl, hRc, hRs⟩ := C
  refine va_putF (D := D) (ci := ci) (C := RC) (T := T) (N := N) (ty := ty0 k) hx hb hts hin ty0 hty hnm hown hK h.1 h.2.1 h.2.2 q0 hm hc k hk (hts _ q) (fun _ h9 => hT ▸ h9) hf hin2 hdecl (hty k hk) hn hfit hl hdg (fun H1 locs1 hP hD hS => kk H1 locs1 ?_)
  rw [hw] at hP hD
  exact ⟨hP, hD, hS⟩
theorem o_new (C : Cx p R s m args c cc nL own D dA B Z d mc ms) (h : Wd D B s ws H locs) {ci idx N : Nat} {fs : List Value} {RC : String} {T : u_T} {ty0 : Nat → FieldType} (hc : vwCl[ci]? = some (RC, T, N)) (hin : ∀ w ∈ u_ws RC T N, w ∈ lw_all) (hty : ∀ k, k < N → parseFieldDescriptor (T k).2.2.1 = some (ty0 k)) (q1 : Cond.classLink own idx RC ∈ lw_all) (q2 : Cond.instantiable RC N ∈ lw_all) (q3 : Cond.initialized RC ∈ lw_all) (hfs : ∀ j, j < N → defaultValue (ty0 j) = vp_V fs j) (hce : cells + 1 ≤ mc) (hsl : slots + N ≤ ms)
    (hdg : decode cc pc = .ok (.new idx, 3)) (kk : ∀ (q : Nat) (H1 : Heap), Wd D B s (ws ++ [(q, .inr (ci, fs))]) H1 locs → W p l e R s m args below meth c H1 locs (cells + 1) (slots + N) Q (F0 m (pc + 3) ls (.ref q :: rest))) : W p l e R s m args below meth c H locs cells slots Q (F0 m pc ls rest) := by
  obtain ⟨hx, hb, hml, hown, hts, hK, hN, hz, hZ, hB, hRf, hRl, hRc, hRs⟩ := C
  exact va_new (D := D) (ci := ci) (C := RC) (T := T) (N := N) hx hb hts hin ty0 hty hown (hts _ q1) (hts _ q2) (hts _ q3) hK h.1 h.2.1 h.2.2 (Wd.hA hB) hc hfs (by rw [hRc]; exact hce) (by rw [hRs]; exact hsl) hdg (fun q H1 hP hD hS => kk q H1 ⟨hP, hD, hS⟩)
/-! byte arrays -/
theorem n_bald (C : Cx p R s m args c cc nL own D dA B Z d mc ms) (h : Wd D B s ws H locs) {a n i v : Nat} {g : Nat → Nat} (hm : (a, bar dA n g) ∈ ws) (hi : i < n) (hn : n < 2147483648) (hv : g i = v) (hdg : decode cc pc = .ok (.baload, 1))
    (kk : W p l e R s m args below meth c H locs cells slots Q (F0 m (pc + 1) ls (.int (sb_b v) :: rest))) : W p l e R s m args below meth c H locs cells slots Q (F0 m pc ls (.int (nI i) :: .ref a :: rest)) := by
  obtain ⟨hx, hb, hml, hown, hts, hK, hN, hz, hZ, hB, hRf, hRl, hRc, hRs⟩ := C
  obtain ⟨q0, hq⟩ := List.getElem?_of_mem hm
  refine va_bald hx hb hK h.1 q0 1 hq rfl (vp_in_nI hi hn) hdg ?_
  rw [nI_clamp (Nat.lt_trans hi hn)]
  subst hv
  exact kk
theorem n_balen (C : Cx p R s m args c cc nL own D dA B Z d mc ms) (h : Wd D B s ws H locs) {a n : Nat} {g : Nat → Nat} (hm : (a, bar dA n g) ∈ ws) (hdg : decode cc pc = .ok (.arraylength, 1))
    (kk : W p l e R s m args below meth c H locs cells slots Q (F0 m (pc + 1) ls (.int (nI n) :: rest))) : W p l e R s m args below meth c H locs cells slots Q (F0 m pc ls (.ref a :: rest)) := by
  obtain ⟨hx, hb, hml, hown, hts, hK, hN, hz, hZ, hB, hRf, hRl, hRc, hRs⟩ := C
  obtain ⟨q0, hq⟩ := List.getElem?_of_mem hm
  exact va_alen (v := nI n) hx hb hK h.1 q0 1 hq rfl rfl hdg kk
theorem x_bast (C : Cx p R s m args c cc nL own D dA B Z d mc ms) (h : Wd D B s ws H locs) (q0 : Nat) {a n i v : Nat} {x : Int32} {g : Nat → Nat} (hm : ws[q0]? = some (a, bar dA n g)) (hi : i < n) (hn : n < 2147483648) (hx9 : x.toInt8.toInt32 = sb_b v) (hw : ws.set q0 (a, bar dA n (upN g i v)) = ws') (hdg : decode cc pc = .ok (.bastore, 1))
    (kk : ∀ (H1 : Heap) (locs1 : List Loc), Wd D B s ws' H1 locs1 → W p l e R s m args below meth c H1 locs1 cells slots Q (F0 m (pc + 1) ls rest)) : W p l e R s m args below meth c H locs cells slots Q (F0 m pc ls (.int x :: .int (nI i) :: .ref a :: rest)) := by
  obtain ⟨hx, hb, hml, hown, hts, hK, hN, hz, hZ, hB, hRf, hRl, hRc, hRs⟩ := C
  have hcl : (nI i).toNatClampNeg = i := nI_clamp (Nat.lt_trans hi hn)
  refine va_bast hx hb hK h.1 h.2.1 h.2.2 q0 1 hm rfl (vp_in_nI hi hn) hdg (fun H1 locs1 hP hD hS => kk H1 locs1 ?_)
  rw [hcl, upN_upd, vp_nar_byte, hx9, upN_map sb_b] at hP hD
  rw [← hw]
  exact ⟨hP, hD, hS⟩
theorem x_iast (C : Cx p R s m args c cc nL own D dA B Z d mc ms) (h : Wd D B s ws H locs) (q0 : Nat) {a n i v : Nat} {g : Nat → Nat} (hm : ws[q0]? = some (a, iar dA n g)) (hi : i < n) (hn : n < 2147483648) (hw : ws.set q0 (a, iar dA n (upN g i v)) = ws') (hdg : decode cc pc = .ok (.iastore, 1))
    (kk : ∀ (H1 : Heap) (locs1 : List Loc), Wd D B s ws' H1 locs1 → W p l e R s m args below meth c H1 locs1 cells slots Q (F0 m (pc + 1) ls rest)) : W p l e R s m args below meth c H locs cells slots Q (F0 m pc ls (.int (nI v) :: .int (nI i) :: .ref a :: rest)) := by
  obtain ⟨hx, hb, hml, hown, hts, hK, hN, hz, hZ, hB, hRf, hRl, hRc, hRs⟩ := C
  have hcl : (nI i).toNatClampNeg = i := nI_clamp (Nat.lt_trans hi hn)
  refine va_iast hx hb hK h.1 h.2.1 h.2.2 q0 0 hm rfl (vp_in_nI hi hn) hdg (fun H1 locs1 hP hD hS => kk H1 locs1 ?_)
  rw [hcl, upN_upd, upN_map nI] at hP hD
  rw [← hw]
  exact ⟨hP, hD, hS⟩
theorem x_wast (C : Cx p R s m args c cc nL own D dA B Z d mc ms) (h : Wd D B s ws H locs) (q0 : Nat) {a n i : Nat} {v : Int32} {g : Nat → Int32} (hm : ws[q0]? = some (a, war dA n g)) (hi : i < n) (hn : n < 2147483648) (hw : ws.set q0 (a, war dA n (upN g i v)) = ws') (hdg : decode cc pc = .ok (.iastore, 1))
    (kk : ∀ (H1 : Heap) (locs1 : List Loc), Wd D B s ws' H1 locs1 → W p l e R s m args below meth c H1 locs1 cells slots Q (F0 m (pc + 1) ls rest)) : W p l e R s m args below meth c H locs cells slots Q (F0 m pc ls (.int v :: .int (nI i) :: .ref a :: rest)) := by
  obtain ⟨hx, hb, hml, hown, hts, hK, hN, hz, hZ, hB, hRf, hRl, hRc, hRs⟩ := C
  have hcl : (nI i).toNatClampNeg = i := nI_clamp (Nat.lt_trans hi hn)
  refine va_iast hx hb hK h.1 h.2.1 h.2.2 q0 0 hm rfl (vp_in_nI hi hn) hdg (fun H1 locs1 hP hD hS => kk H1 locs1 ?_)
  rw [hcl, upN_upd] at hP hD
  rw [← hw]
  exact ⟨hP, hD, hS⟩
theorem n_newb (C : Cx p R s m args c cc nL own D dA B Z d mc ms) (h : Wd D B s ws H locs) {n : Nat} (qa : Cond.arrayClass .byte ∈ lw_all) (hn : n < 134217728) (hce : cells + 1 ≤ mc) (hsl : slots + n ≤ ms) (hdg : decode cc pc = .ok (.newarray .byte, 2))
    (kk : ∀ (q : Nat) (H1 : Heap), Wd D B s (ws ++ [(q, bar dA n (fun _ => 0))]) H1 locs → W p l e R s m args below meth c H1 locs (cells + 1) (slots + n) Q (F0 m (pc + 2) ls (.ref q :: rest))) : W p l e R s m args below meth c H locs cells slots Q (F0 m pc ls (.int (nI n) :: rest)) := by
  obtain ⟨hx, hb, hml, hown, hts, hK, hN, hz, hZ, hB, hRf, hRl, hRc, hRs⟩ := C
  refine va_newa (atype := .byte) (ty := .byte) (N' := n) (a0 := (n, .inl (fun _ => sb_b 0))) hx hb (hts _ qa) rfl hK h.1 h.2.1 h.2.2 (Wd.hA hB) (fun cA => rfl) (nI_pos (by omega)) (nI_clamp (by omega)) (by show n * 1 ≤ 536870912; omega) (by rw [hRc]; exact hce) (by rw [hRs]; exact hsl) hdg (fun q cA H1 hK1 hP hD hS => ?_)
  have e1 : cA = dA 1 := by
    have h1 := (hK1.2 7 (cA, .byte) rfl).2
    have h2 := (hK.2 1 (dA 1, .byte) rfl).2
    exact Option.some.inj (h1.symm.trans h2)
  subst e1
  exact kk q H1 ⟨hP, hD, hS⟩
/-! calls with a receiver that is known by its cell -/
theorem call_VR {S : Type} {post : S → Prop} {rf : S → Option Value} {wf : S → va_W} {st0 As : List Value} {mc1 ms1 d1 maxL idx n b : Nat} {CN : String} {y : MethodName} {bytes : ByteArray} {ret : Option FieldType} {lv : List (Nat × Value)} (C : Cx p R s m args c cc nL own D dA B Z d mc ms) (h : Wd D B s ws H locs)
    (hM : Ct l D dA B Z y bytes maxL ret d1 mc1 ms1 (.ref b :: As) ws post rf wf) (hq : GoodIn lw_all (wsV own idx CN y (ws_ y bytes maxL ret))) (hy : y.cls = CN ∧ yok y n)
    (hR : ∃ cell : Cell, H[b]? = some cell ∧ cell.vm.isStatics = false ∧ s.vm.findClass CN = some cell.cls) (hd : d1 + 1 ≤ d) (hL : maxL ≤ 45) (hn : As.length = n) (hl : lv_has ls nL lv) (hst : st0 = As.reverse ++ .ref b :: rest) (hroom : (rest.map fun v => v.category).sum ≤ 8)
    (hdg : decode cc pc = .ok (.invokevirtual idx, 3)) (hce : cells + mc1 ≤ mc ∧ slots + ms1 ≤ ms)
    (kk : ∀ (u : S) (H1 : Heap) (locs1 : List Loc), post u → Wd D B s (wf u) H1 locs1 → W p l e R s m args below meth c H1 locs1 (cells + mc1) (slots + ms1) Q (F0 m (pc + 3) ls ((rf u).toList ++ rest))) : W p l e R s m args below meth c H locs cells slots Q (F0 m pc ls st0) := by
  have C0 := C
  obtain ⟨hx, hb, hml, hown, hts, hK, hN, hz, hZ, hB, hRf, hRl, hRc, hRs⟩ := C
  exact call_g C0 h (va_runV (As := As) (rest := rest) ⟨hx, hb, hml, hown, hts⟩ hM (cwV n hts hq rfl rfl rfl hy (room_le hRf hRl hd hL)) ⟨fun a U g mk q => ⟨q.1, Pr.blind hZ q.2 g mk a⟩, hR, fun U hU hW => ⟨rfl, h.pr hK hN hz hZ hB U hU hW⟩⟩ rfl hn hl.1 hst (lv_room hroom) hdg (by rw [hRc, hRs]; exact hce)) kk
theorem o_recv (C : Cx p R s m args c cc nL own D dA B Z d mc ms) (h : Wd D B s ws H locs) {a ci N : Nat} {fs : List Value} {RC : String} {T : u_T} (hm : (a, .inr (ci, fs)) ∈ ws) (hc : vwCl[ci]? = some (RC, T, N)) : ∃ cell : Cell, H[a]? = some cell ∧ cell.vm.isStatics = false ∧ s.vm.findClass RC = some cell.cls := by
  obtain ⟨hx, hb, hml, hown, hts, hK, hN, hz, hZ, hB, hRf, hRl, hRc, hRs⟩ := C
  obtain ⟨i, hi⟩ := List.getElem?_of_mem hm
  exact va_recv hK h.1 hc hi
/-! a call by what is selected -/
theorem sel_priv {C C0 : String} {y x0 y0 : MethodName} {s : State} {args : Array Value} {n : Nat} (hy : y.cls ≠ "java/lang/invoke/MethodHandle" ∧ y.cls ≠ "java/lang/invoke/VarHandle") (h0 : (Cond.selects C0 x0 y0).before args s = true) (hc0 : y0.cls = y.cls)
    (hins : (Cond.instantiable C n).before args s = true) (hpriv : (Cond.privateMethod y).before args s = true) (hinst : (Cond.instanceMethod y).before args s = true) : (Cond.selects C y y).before args s = true := by
  obtain ⟨c, k, hc, -⟩ := Cond.instantiable_spec hins
  obtain ⟨mk, methM, hnamed, hmethM, -, -⟩ := Cond.instanceMethod_spec hinst
  obtain ⟨c2, r2, m2, -, -, q3, -, kP, hkP, hkPi⟩ := Cond.selects_spec h0
  have hfound : s.methodFound? y.cls y.name y.desc = some mk := State.methodFound?_of_named hnamed hy
  have e1 := findClass_of_methodNamed q3
  rw [hc0] at e1
  have hcls : m2.cls = mk.cls := Option.some.inj (e1.symm.trans (findClass_of_methodNamed hnamed))
  have hsel : selectMethod {} s.vm c mk = .method mk := selectMethod_private hmethM (Cond.privateMethod_at hpriv mk methM hnamed hmethM)
  rw [hcls] at hkP
  simp only [Cond.before, Cond.holds, Cond.value, hc, hfound, hnamed, hsel, hkP]
  simp; exact hkPi
theorem call_VS {S : Type} {post : S → Prop} {rf : S → Option Value} {wf : S → va_W} {st0 As : List Value} {mc1 ms1 d1 maxL idx n b : Nat} {CN : String} {y : MethodName} {bytes : ByteArray} {ret : Option FieldType} {lv : List (Nat × Value)} (C : Cx p R s m args c cc nL own D dA B Z d mc ms) (h : Wd D B s ws H locs)
    (hM : Ct l D dA B Z y bytes maxL ret d1 mc1 ms1 (.ref b :: As) ws post rf wf) (q1 : Cond.methodLink own idx y ∈ lw_all) (q2 : Cond.instanceMethod y ∈ lw_all) (hsel : (Cond.selects CN y y).before args s = true) (q4 : Cond.initialized y.cls ∈ lw_all) (q5 : Cond.code y bytes maxL ret ∈ lw_all) (hy : yok y n)
    (hR : ∃ cell : Cell, H[b]? = some cell ∧ cell.vm.isStatics = false ∧ s.vm.findClass CN = some cell.cls) (hd : d1 + 1 ≤ d) (hL : maxL ≤ 45) (hn : As.length = n) (hl : lv_has ls nL lv) (hst : st0 = As.reverse ++ .ref b :: rest) (hroom : (rest.map fun v => v.category).sum ≤ 8)
    (hdg : decode cc pc = .ok (.invokevirtual idx, 3)) (hce : cells + mc1 ≤ mc ∧ slots + ms1 ≤ ms)
    (kk : ∀ (u : S) (H1 : Heap) (locs1 : List Loc), post u → Wd D B s (wf u) H1 locs1 → W p l e R s m args below meth c H1 locs1 (cells + mc1) (slots + ms1) Q (F0 m (pc + 3) ls ((rf u).toList ++ rest))) : W p l e R s m args below meth c H locs cells slots Q (F0 m pc ls st0) := by
  have C0 := C
  obtain ⟨hx, hb, hml, hown, hts, hK, hN, hz, hZ, hB, hRf, hRl, hRc, hRs⟩ := C
  exact call_g C0 h (va_runV (As := As) (rest := rest) ⟨hx, hb, hml, hown, hts⟩ hM ⟨callB_of n hts (lw_meth q5) rfl rfl rfl (hts _ q4) (hts _ q1) hy (room_le hRf hRl hd hL), hts _ q2, hsel⟩ ⟨fun a U g mk q => ⟨q.1, Pr.blind hZ q.2 g mk a⟩, hR, fun U hU hW => ⟨rfl, h.pr hK hN hz hZ hB U hU hW⟩⟩ rfl hn hl.1 hst (lv_room hroom) hdg (by rw [hRc, hRs]; exact hce)) kk
theorem b_clone (C : Cx p R s m args c cc nL own D dA B Z d mc ms) (h : Wd D B s ws H locs) {a n idx : Nat} {g : Nat → Nat} (hm : (a, bar dA n g) ∈ ws) (hlink : Cond.methodLink own idx ⟨"[B", "clone", "()Ljava/lang/Object;"⟩ ∈ lw_all) (hls : ls.size = nL) (hd : 1 ≤ d) (hroom : (rest.map fun v => v.category).sum ≤ 8) (hce : cells + 1 ≤ mc) (hsl : slots + n ≤ ms) (hdg : decode cc pc = .ok (.invokevirtual idx, 3))
    (kk : ∀ (q : Nat) (H1 : Heap), Wd D B s (ws ++ [(q, bar dA n g)]) H1 locs → W p l e R s m args below meth c H1 locs (cells + 1) (slots + n) Q (F0 m (pc + 3) ls (.ref q :: rest))) : W p l e R s m args below meth c H locs cells slots Q (F0 m pc ls (.ref a :: rest)) := by
  obtain ⟨hx, hb, hml, hown, hts, hK, hN, hz, hZ, hB, hRf, hRl, hRc, hRs⟩ := C
  obtain ⟨q0, hq⟩ := List.getElem?_of_mem hm
  refine va_clone (ty := .byte) hx hb (hml.trans hls.symm) hown (hts _ hlink) (hts _ q569) (hts _ q570) (hts _ q571) (hts _ q572) (hN _ q573 rfl) hK h.1 h.2.1 h.2.2 (Wd.hA hB) q0 1 hq rfl (va_nm_byte (hK.2 1 _ rfl).2) (fun i v hv => ?_) (by rw [hRf]; exact hd) (by rw [hRl]; omega) (by rw [hRc]; exact hce) (by rw [hRs]; exact hsl) hdg (fun q H1 hK1 hP hD hS => kk q H1 ⟨hP, hD, hS⟩)
  have hi : i < n := by
    rcases Nat.lt_or_ge i n with h9 | h9
    · exact h9
    · have h8 : (vp_cell (dA 1) (n, Sum.inl (fun j => sb_b (g j)))).slots.size = n := arrV_size _ _ _
      rw [Array.getElem?_eq_none (by rw [h8]; exact h9)] at hv
      cases hv
  have h7 : (vp_cell (dA 1) (n, Sum.inl (fun j => sb_b (g j)))).slots[i]? = some (.int (sb_b (g i))) := arrV_read _ _ hi
  rw [h7] at hv
  cases hv
  exact sb_fit _
theorem b_cast (C : Cx p R s m args c cc nL own D dA B Z d mc ms) (h : Wd D B s ws H locs) {a n idx : Nat} {g : Nat → Nat} (hm : (a, bar dA n g) ∈ ws) (hlink : Cond.classLink own idx "[B" ∈ lw_all) (hdg : decode cc pc = .ok (.checkcast idx, 3))
    (kk : W p l e R s m args below meth c H locs cells slots Q (F0 m (pc + 3) ls (.ref a :: rest))) : W p l e R s m args below meth c H locs cells slots Q (F0 m pc ls (.ref a :: rest)) := by
  obtain ⟨hx, hb, hml, hown, hts, hK, hN, hz, hZ, hB, hRf, hRl, hRc, hRs⟩ := C
  obtain ⟨q0, hq⟩ := List.getElem?_of_mem hm
  exact va_castA hx hb hown (hts _ hlink) h.1 q0 hq (va_nm_byte (hK.2 1 _ rfl).2) hdg kk
theorem o_init (C : Cx p R s m args c cc nL own D dA B Z d mc ms) (h : Wd D B s ws H locs) {a idx : Nat} (hlink : Cond.methodLink own idx Lib.objectInit ∈ lw_all) (hls : ls.size = nL) (hd : 1 ≤ d) (hroom : (rest.map fun v => v.category).sum ≤ 8) (hdg : decode cc pc = .ok (.invokespecial idx, 3))
    (kk : W p l e R s m args below meth c H locs cells slots Q (F0 m (pc + 3) ls rest)) : W p l e R s m args below meth c H locs cells slots Q (F0 m pc ls (.ref a :: rest)) := by
  obtain ⟨hx, hb, hml, hown, hts, hK, hN, hz, hZ, hB, hRf, hRl, hRc, hRs⟩ := C
  exact W.objInit hx hb hown (hts _ hlink) (hts _ q177) (hts _ q178) (g := F0 m pc ls (.ref a :: rest)) rfl (hls.trans hml.symm) rfl hdg (by rw [hRf]; exact hd) (by rw [hRl]; show 2 * 0 + _ + 12 ≤ _; omega) kk
theorem ret_n {S : Type} {post : S → Prop} {rf : S → Option Value} {wf : S → va_W} (C : Cx p R s m args c cc nL own D dA B Z d mc ms) {ty : FieldType} (hrt : meth.sig.returnType = some ty) (hlocks : meth.locks = false) (h : Wd D B s ws H locs) (u : S) (hp : post u) {v : Int32} (hn : narrow ty (.int v) = .int v) (hr : rf u = some (.int v)) (hw : wf u = ws) (hc : cells ≤ mc) (hs : slots ≤ ms) (hdg : decode cc pc = .ok (.ireturn, 1)) :
    W p l e R s m args below meth c H locs cells slots (MQ below (Qg D dA B Z post rf wf) args s mc ms (bA B)) (F0 m pc ls [.int v]) :=
  W.widen hc hs (W.zret C.1 C.2.1 hrt hn (ret_q C h u hp hr hw) h.2.2.2.2 hdg hlocks)
theorem nar_char : ∀ c, c < 256 → narrow .char (.int (nI c)) = .int (nI c) := by decide +kernel
theorem sb_idem (n : Nat) : (sb_b n).toInt8.toInt32 = sb_b n := by
  unfold sb_b
  rw [Int8.toInt8_toInt32]
theorem shr_z (n : Nat) (h : n < 2147483648) : shr (nI n) (nI 0) = nI n := by
  have h1 : shr (nI n) (nI 0) = nI (n / 2 ^ 0) := pk_shrN h _ 0 (by decide)
  rw [h1, Nat.pow_zero, Nat.div_one]
theorem shl_z (n : Nat) (h : n < 2147483648) : shl (nI n) (nI 0) = nI n := by
  have h1 : shl (nI n) (nI 0) = nI (n * 2 ^ 0) := pk_shlN _ 0 (by decide) (by omega)
  rw [h1, Nat.pow_zero, Nat.mul_one]
/-- a super's method -/
theorem call_SU {S : Type} {post : S → Prop} {rf : S → Option Value} {wf : S → va_W} {st0 As : List Value} {mc1 ms1 d1 maxL idx n b ci N : Nat} {CN : String} {T : u_T} {y : MethodName} {bytes : ByteArray} {ret : Option FieldType} {lv : List (Nat × Value)} (C : Cx p R s m args c cc nL own D dA B Z d mc ms) (h : Wd D B s ws H locs)
    (hM : Ct l D dA B Z y bytes maxL ret d1 mc1 ms1 (.ref b :: As) ws post rf wf) (hq : GoodIn lw_all (va_wsSU own idx y (ws_ y bytes maxL ret))) (hy : y.name ≠ "<init>" ∧ (parseMethodDescriptor y.desc).map (fun d => d.parameters.length) = some n)
    (hc : vwCl[ci]? = some (CN, T, N)) (hR : ∃ cell : Cell, H[b]? = some cell ∧ cell.vm.isStatics = false ∧ s.vm.findClass CN = some cell.cls) (hd : d1 + 1 ≤ d) (hL : maxL ≤ 45) (hn : As.length = n) (hl : lv_has ls nL lv) (hst : st0 = As.reverse ++ .ref b :: rest) (hroom : (rest.map fun v => v.category).sum ≤ 8)
    (hdg : decode cc pc = .ok (.invokespecial idx, 3)) (hce : cells + mc1 ≤ mc ∧ slots + ms1 ≤ ms)
    (kk : ∀ (u : S) (H1 : Heap) (locs1 : List Loc), post u → Wd D B s (wf u) H1 locs1 → W p l e R s m args below meth c H1 locs1 (cells + mc1) (slots + ms1) Q (F0 m (pc + 3) ls ((rf u).toList ++ rest))) : W p l e R s m args below meth c H locs cells slots Q (F0 m pc ls st0) := by
  have C0 := C
  obtain ⟨hx, hb, hml, hown, hts, hK, hN, hz, hZ, hB, hRf, hRl, hRc, hRs⟩ := C
  exact call_g C0 h (va_runSU (As := As) (rest := rest) (hK.1 ci _ hc).2 ⟨hx, hb, hml, hown, hts⟩ hM (va_cwSU n hts hq rfl rfl rfl hy (room_le hRf hRl hd hL)) ⟨fun a U g mk q => ⟨q.1, Pr.blind hZ q.2 g mk a⟩, hR, fun U hU hW => ⟨rfl, h.pr hK hN hz hZ hB U hU hW⟩⟩ rfl hn hl.1 hst (lv_room hroom) hdg (by rw [hRc, hRs]; exact hce)) kk
theorem lw_SU {own : String} {idx : Nat} {y : MethodName} {b : ByteArray} {L : Nat} {r : Option FieldType} (h1 : Cond.methodLink own idx y ∈ lw_all) (h2 : Cond.sameMethod y.cls y.cls y.name y.desc ∈ lw_all) (h3 : Cond.superclass own y.cls ∈ lw_all) (h4 : Cond.instanceMethod y ∈ lw_all) (h5 : Cond.initialized y.cls ∈ lw_all) (h6 : Cond.code y b L r ∈ lw_all) : GoodIn lw_all (va_wsSU own idx y (ws_ y b L r)) := by
  refine lw_app (fun w hw => ?_) (lw_meth h6)
  simp only [List.mem_cons, List.not_mem_nil, or_false] at hw
  rcases hw with rfl | rfl | rfl | rfl | rfl
  · exact h1
  · exact h2
  · exact h3
  · exact h4
  · exact h5
/-- overriding, inherited, abstract -/
theorem lw_O {own : String} {idx : Nat} {C owner : String} {x y : MethodName} {b : ByteArray} {L : Nat} {r : Option FieldType} (h1 : Cond.methodLink own idx x ∈ lw_all) (h2 : Cond.sameMethod x.cls owner x.name x.desc ∈ lw_all) (h3 : Cond.instanceMethod ⟨owner, x.name, x.desc⟩ ∈ lw_all) (h4 : Cond.selects C x y ∈ lw_all) (h5 : Cond.instanceMethod y ∈ lw_all) (h6 : Cond.initialized y.cls ∈ lw_all) (hcode : Cond.code y b L r ∈ lw_all) : GoodIn lw_all (va_wsO own idx C owner x y (ws_ y b L r)) := by
  refine lw_good (fun w hw => ?_)
  rcases List.mem_append.mp hw with hw | hw
  · simp only [List.mem_cons, List.not_mem_nil, or_false] at hw
    rcases hw with rfl | rfl | rfl | rfl | rfl | rfl
    · exact h1
    · exact h2
    · exact h3
    · exact h4
    · exact h5
    · exact h6
  · exact ((lw_meth hcode) w hw).1
theorem lw_U {own : String} {idx : Nat} {C owner : String} {x y : MethodName} {b : ByteArray} {L : Nat} {r : Option FieldType} (h1 : Cond.methodLink own idx x ∈ lw_all) (h2 : Cond.sameMethod x.cls owner x.name x.desc ∈ lw_all) (h3 : Cond.selects C x y ∈ lw_all) (h4 : Cond.instanceMethod y ∈ lw_all) (h5 : Cond.initialized y.cls ∈ lw_all) (hcode : Cond.code y b L r ∈ lw_all) : GoodIn lw_all (va_wsU own idx C owner x y (ws_ y b L r)) := by
  refine lw_good (fun w hw => ?_)
  rcases List.mem_append.mp hw with hw | hw
  · simp only [List.mem_cons, List.not_mem_nil, or_false] at hw
    rcases hw with rfl | rfl | rfl | rfl | rfl
    · exact h1
    · exact h2
    · exact h3
    · exact h4
    · exact h5
  · exact ((lw_meth hcode) w hw).1
theorem call_O {S : Type} {post : S → Prop} {rf : S → Option Value} {wf : S → va_W} {st0 As : List Value} {mc1 ms1 d1 maxL idx n b : Nat} {CN : String} {x y : MethodName} {bytes : ByteArray} {ret : Option FieldType} {lv : List (Nat × Value)} (C : Cx p R s m args c cc nL own D dA B Z d mc ms) (h : Wd D B s ws H locs)
    (hM : Ct l D dA B Z y bytes maxL ret d1 mc1 ms1 (.ref b :: As) ws post rf wf) {owner : String} (hq : GoodIn lw_all (va_wsO own idx CN owner x y (ws_ y bytes maxL ret))) {b0 : ByteArray} {m0 : Nat} {r0 : Option FieldType} (h0 : Cond.code ⟨owner, x.name, x.desc⟩ b0 m0 r0 ∈ lw_all) (hy : owner ≠ "java/lang/invoke/MethodHandle" ∧ owner ≠ "java/lang/invoke/VarHandle" ∧ (parseMethodDescriptor x.desc).map (fun d => d.parameters.length) = some n)
    (hR : ∃ cell : Cell, H[b]? = some cell ∧ cell.vm.isStatics = false ∧ s.vm.findClass CN = some cell.cls) (hd : d1 + 1 ≤ d) (hL : maxL ≤ 45) (hn : As.length = n) (hl : lv_has ls nL lv) (hst : st0 = As.reverse ++ .ref b :: rest) (hroom : (rest.map fun v => v.category).sum ≤ 8)
    (hdg : decode cc pc = .ok (.invokevirtual idx, 3)) (hce : cells + mc1 ≤ mc ∧ slots + ms1 ≤ ms)
    (kk : ∀ (u : S) (H1 : Heap) (locs1 : List Loc), post u → Wd D B s (wf u) H1 locs1 → W p l e R s m args below meth c H1 locs1 (cells + mc1) (slots + ms1) Q (F0 m (pc + 3) ls ((rf u).toList ++ rest))) : W p l e R s m args below meth c H locs cells slots Q (F0 m pc ls st0) := by
  have C0 := C
  obtain ⟨hx, hb, hml, hown, hts, hK, hN, hz, hZ, hB, hRf, hRl, hRc, hRs⟩ := C
  exact call_g C0 h (va_runU (As := As) (rest := rest) ⟨hx, hb, hml, hown, hts⟩ hM (va_cwO n hts hq rfl rfl rfl h0 hy (room_le hRf hRl hd hL)) ⟨fun a U g mk q => ⟨q.1, Pr.blind hZ q.2 g mk a⟩, hR, fun U hU hW => ⟨rfl, h.pr hK hN hz hZ hB U hU hW⟩⟩ rfl hn hl.1 hst (lv_room hroom) hdg (by rw [hRc, hRs]; exact hce)) kk
theorem call_U {S : Type} {post : S → Prop} {rf : S → Option Value} {wf : S → va_W} {st0 As : List Value} {mc1 ms1 d1 maxL idx n b : Nat} {CN : String} {x y : MethodName} {bytes : ByteArray} {ret : Option FieldType} {lv : List (Nat × Value)} (C : Cx p R s m args c cc nL own D dA B Z d mc ms) (h : Wd D B s ws H locs)
    (hM : Ct l D dA B Z y bytes maxL ret d1 mc1 ms1 (.ref b :: As) ws post rf wf) {owner : String} (hq : GoodIn lw_all (va_wsU own idx CN owner x y (ws_ y bytes maxL ret))) (hyx : y = ⟨owner, x.name, x.desc⟩) (hy : owner ≠ "java/lang/invoke/MethodHandle" ∧ owner ≠ "java/lang/invoke/VarHandle" ∧ (parseMethodDescriptor x.desc).map (fun d => d.parameters.length) = some n)
    (hR : ∃ cell : Cell, H[b]? = some cell ∧ cell.vm.isStatics = false ∧ s.vm.findClass CN = some cell.cls) (hd : d1 + 1 ≤ d) (hL : maxL ≤ 45) (hn : As.length = n) (hl : lv_has ls nL lv) (hst : st0 = As.reverse ++ .ref b :: rest) (hroom : (rest.map fun v => v.category).sum ≤ 8)
    (hdg : decode cc pc = .ok (.invokevirtual idx, 3)) (hce : cells + mc1 ≤ mc ∧ slots + ms1 ≤ ms)
    (kk : ∀ (u : S) (H1 : Heap) (locs1 : List Loc), post u → Wd D B s (wf u) H1 locs1 → W p l e R s m args below meth c H1 locs1 (cells + mc1) (slots + ms1) Q (F0 m (pc + 3) ls ((rf u).toList ++ rest))) : W p l e R s m args below meth c H locs cells slots Q (F0 m pc ls st0) := by
  have C0 := C
  obtain ⟨hx, hb, hml, hown, hts, hK, hN, hz, hZ, hB, hRf, hRl, hRc, hRs⟩ := C
  exact call_g C0 h (va_runU (As := As) (rest := rest) ⟨hx, hb, hml, hown, hts⟩ hM (va_cwU n hts hq rfl rfl rfl hyx hy (room_le hRf hRl hd hL)) ⟨fun a U g mk q => ⟨q.1, Pr.blind hZ q.2 g mk a⟩, hR, fun U hU hW => ⟨rfl, h.pr hK hN hz hZ hB U hU hW⟩⟩ rfl hn hl.1 hst (lv_room hroom) hdg (by rw [hRc, hRs]; exact hce)) kk
theorem call_A {S : Type} {post : S → Prop} {rf : S → Option Value} {wf : S → va_W} {st0 As : List Value} {mc1 ms1 d1 maxL idx n b : Nat} {CN : String} {x y : MethodName} {bytes : ByteArray} {ret : Option FieldType} {lv : List (Nat × Value)} (C : Cx p R s m args c cc nL own D dA B Z d mc ms) (h : Wd D B s ws H locs)
    (hM : Ct l D dA B Z y bytes maxL ret d1 mc1 ms1 (.ref b :: As) ws post rf wf) {owner : String} (hq : GoodIn lw_all (va_wsU own idx CN owner x y (ws_ y bytes maxL ret))) (hdec : Cond.declares ⟨owner, x.name, x.desc⟩ ∈ lw_tbl) (hy : owner ≠ "java/lang/invoke/MethodHandle" ∧ owner ≠ "java/lang/invoke/VarHandle" ∧ (parseMethodDescriptor x.desc).map (fun d => d.parameters.length) = some n)
    (hR : ∃ cell : Cell, H[b]? = some cell ∧ cell.vm.isStatics = false ∧ s.vm.findClass CN = some cell.cls) (hd : d1 + 1 ≤ d) (hL : maxL ≤ 45) (hn : As.length = n) (hl : lv_has ls nL lv) (hst : st0 = As.reverse ++ .ref b :: rest) (hroom : (rest.map fun v => v.category).sum ≤ 8)
    (hdg : decode cc pc = .ok (.invokevirtual idx, 3)) (hce : cells + mc1 ≤ mc ∧ slots + ms1 ≤ ms)
    (kk : ∀ (u : S) (H1 : Heap) (locs1 : List Loc), post u → Wd D B s (wf u) H1 locs1 → W p l e R s m args below meth c H1 locs1 (cells + mc1) (slots + ms1) Q (F0 m (pc + 3) ls ((rf u).toList ++ rest))) : W p l e R s m args below meth c H locs cells slots Q (F0 m pc ls st0) := by
  have C0 := C
  obtain ⟨hx, hb, hml, hown, hts, hK, hN, hz, hZ, hB, hRf, hRl, hRc, hRs⟩ := C
  exact call_g C0 h (va_runU (As := As) (rest := rest) ⟨hx, hb, hml, hown, hts⟩ hM (va_cwA n hts hq rfl rfl rfl (hN _ hdec rfl) hy (room_le hRf hRl hd hL)) ⟨fun a U g mk q => ⟨q.1, Pr.blind hZ q.2 g mk a⟩, hR, fun U hU hW => ⟨rfl, h.pr hK hN hz hZ hB U hU hW⟩⟩ rfl hn hl.1 hst (lv_room hroom) hdg (by rw [hRc, hRs]; exact hce)) kk
theorem n_mmin (C : Cx p R s m args c cc nL own D dA B Z d mc ms) (h : Wd D B s ws H locs) {a b idx : Nat} (ha : a < 2147483648) (hb9 : b < 2147483648) (q1 : Cond.methodLink own idx Lib.Math.min.name ∈ lw_all) (q2 : Cond.static Lib.Math.min.name ∈ lw_all) (q3 : Cond.initialized "java/lang/Math" ∈ lw_all) (q4 : Cond.code Lib.Math.min.name Lib.Math.min.code 2 (some .int) ∈ lw_all) (hls : ls.size = nL) (hd : 1 ≤ d) (hroom : (rest.map fun v => v.category).sum ≤ 8) (hce : cells ≤ mc) (hsl : slots ≤ ms) (hdg : decode cc pc = .ok (.invokestatic idx, 3))
    (kk : W p l e R s m args below meth c H locs cells slots Q (F0 m (pc + 3) ls (.int (nI (min a b)) :: rest))) : W p l e R s m args below meth c H locs cells slots Q (F0 m pc ls (.int (nI b) :: .int (nI a) :: rest)) := by
  obtain ⟨hx, hb, hml, hown, hts, hK, hN, hz, hZ, hB, hRf, hRl, hRc, hRs⟩ := C
  refine va_mmin hx hb (hml.trans hls.symm) hown (hts _ q1) (hts _ q2) (hts _ q3) (hts _ q4) (by rw [hRf]; exact hd) (by rw [hRl]; omega) (by rw [hRc]; exact hce) (by rw [hRs]; exact hsl) hdg ?_
  by_cases q : nI b < nI a
  · rw [if_pos q]; rw [Nat.min_eq_right (Nat.le_of_lt ((nI_ltI hb9 ha).mp q))] at kk; exact kk
  · rw [if_neg q]; rw [Nat.min_eq_left (Nat.not_lt.mp (fun z => q ((nI_ltI hb9 ha).mpr z)))] at kk; exact kk
theorem n_mmax (C : Cx p R s m args c cc nL own D dA B Z d mc ms) (h : Wd D B s ws H locs) {a b idx : Nat} (ha : a < 2147483648) (hb9 : b < 2147483648) (q1 : Cond.methodLink own idx Lib.Math.max.name ∈ lw_all) (q2 : Cond.static Lib.Math.max.name ∈ lw_all) (q3 : Cond.initialized "java/lang/Math" ∈ lw_all) (q4 : Cond.code Lib.Math.max.name Lib.Math.max.code 2 (some .int) ∈ lw_all) (hls : ls.size = nL) (hd : 1 ≤ d) (hroom : (rest.map fun v => v.category).sum ≤ 8) (hce : cells ≤ mc) (hsl : slots ≤ ms) (hdg : decode cc pc = .ok (.invokestatic idx, 3))
    (kk : W p l e R s m args below meth c H locs cells slots Q (F0 m (pc + 3) ls (.int (nI (max a b)) :: rest))) : W p l e R s m args below meth c H locs cells slots Q (F0 m pc ls (.int (nI b) :: .int (nI a) :: rest)) := by
  obtain ⟨hx, hb, hml, hown, hts, hK, hN, hz, hZ, hB, hRf, hRl, hRc, hRs⟩ := C
  refine va_mmax hx hb (hml.trans hls.symm) hown (hts _ q1) (hts _ q2) (hts _ q3) (hts _ q4) (by rw [hRf]; exact hd) (by rw [hRl]; omega) (by rw [hRc]; exact hce) (by rw [hRs]; exact hsl) hdg ?_
  by_cases q : nI a < nI b
  · rw [if_pos q]; rw [Nat.max_eq_right (Nat.le_of_lt ((nI_ltI ha hb9).mp q))] at kk; exact kk
  · rw [if_neg q]; rw [Nat.max_eq_left (Nat.not_lt.mp (fun z => q ((nI_ltI ha hb9).mpr z)))] at kk; exact kk
/-! strings: constants, or made -/
def StrV (dA : Nat → ClassId) (B : Nat) (Z : State → Prop) (ws : va_W) (a v : Nat) (l : List Nat) : Prop :=
  (∃ x2 x3 : Value, (a, .inr (17, [.ref v, .int 0, x2, x3])) ∈ ws ∧ (v, bal dA l) ∈ ws) ∨ (∀ U : State, Z U → va_O "java/lang/String" a (bA B) U U.heap ∧ va_OF "java/lang/String" "coder" "B" (.int 0) a (bA B) U U.heap ∧ va_OF "java/lang/String" "value" "[B" (.ref v) a (bA B) U U.heap ∧ va_T .byte v l.length (fun j => .int (sb_b (gD l j))) (bA B) U U.heap)
def Str (dA : Nat → ClassId) (B : Nat) (Z : State → Prop) (ws : va_W) (a : Nat) (l : List Nat) : Prop := ∃ v, StrV dA B Z ws a v l
theorem StrV.up {dA : Nat → ClassId} {B : Nat} {Z : State → Prop} {ws ws1 : va_W} {a v : Nat} {l : List Nat} (h : StrV dA B Z ws a v l) (hs : ∀ x ∈ ws, x ∈ ws1) : StrV dA B Z ws1 a v l := by
  rcases h with ⟨x2, x3, h1, h2⟩ | h
  · exact Or.inl ⟨x2, x3, hs _ h1, hs _ h2⟩
  · exact Or.inr h
theorem Str.up {dA : Nat → ClassId} {B : Nat} {Z : State → Prop} {ws ws1 : va_W} {a : Nat} {l : List Nat} (h : Str dA B Z ws a l) (hs : ∀ x ∈ ws, x ∈ ws1) : Str dA B Z ws1 a l := by
  obtain ⟨v, h⟩ := h
  exact ⟨v, h.up hs⟩
theorem s_gv (C : Cx p R s m args c cc nL own D dA B Z d mc ms) (h : Wd D B s ws H locs) {a v idx : Nat} {lt : List Nat} (hs : StrV dA B Z ws a v lt) (q : Cond.fieldLink own idx "java/lang/String" "value" "[B" ∈ lw_all) (hdg : decode cc pc = .ok (.getfield idx, 3))
    (kk : W p l e R s m args below meth c H locs cells slots Q (F0 m (pc + 3) ls (.ref v :: rest))) : W p l e R s m args below meth c H locs cells slots Q (F0 m pc ls (.ref a :: rest)) := by
  rcases hs with ⟨x2, x3, h1, h2⟩ | hs
  · exact o_get C h (RC := RJ13) (T := TJ13) (N := 4) h1 rfl in_J13 0 (by decide) q rfl rfl hdg kk
  · obtain ⟨hx, hb, hml, hown, hts, hK, hN, hz, hZ, hB, hRf, hRl, hRc, hRs⟩ := C
    exact vk_getf hx hb (hs s hz).2.2.1 h.2.2 hown (hts _ q) (fun _ h9 => h9) hdg kk
theorem s_gc (C : Cx p R s m args c cc nL own D dA B Z d mc ms) (h : Wd D B s ws H locs) {a v idx : Nat} {lt : List Nat} (hs : StrV dA B Z ws a v lt) (q : Cond.fieldLink own idx "java/lang/String" "coder" "B" ∈ lw_all) (hdg : decode cc pc = .ok (.getfield idx, 3))
    (kk : W p l e R s m args below meth c H locs cells slots Q (F0 m (pc + 3) ls (.int (nI 0) :: rest))) : W p l e R s m args below meth c H locs cells slots Q (F0 m pc ls (.ref a :: rest)) := by
  rcases hs with ⟨x2, x3, h1, h2⟩ | hs
  · exact o_get C h (RC := RJ13) (T := TJ13) (N := 4) h1 rfl in_J13 1 (by decide) q rfl rfl hdg kk
  · obtain ⟨hx, hb, hml, hown, hts, hK, hN, hz, hZ, hB, hRf, hRl, hRc, hRs⟩ := C
    exact vk_getf hx hb (hs s hz).2.1 h.2.2 hown (hts _ q) (fun _ h9 => h9) hdg kk
theorem s_len (C : Cx p R s m args c cc nL own D dA B Z d mc ms) (h : Wd D B s ws H locs) {a v : Nat} {lt : List Nat} (hs : StrV dA B Z ws a v lt) (hdg : decode cc pc = .ok (.arraylength, 1))
    (kk : W p l e R s m args below meth c H locs cells slots Q (F0 m (pc + 1) ls (.int (nI lt.length) :: rest))) : W p l e R s m args below meth c H locs cells slots Q (F0 m pc ls (.ref v :: rest)) := by
  rcases hs with ⟨x2, x3, h1, h2⟩ | hs
  · exact n_balen C h h2 hdg kk
  · obtain ⟨hx, hb, hml, hown, hts, hK, hN, hz, hZ, hB, hRf, hRl, hRc, hRs⟩ := C
    exact va_tlen (v := nI lt.length) hx hb (hs s hz).2.2.2 h.2.2 rfl hdg kk
theorem s_bald (C : Cx p R s m args c cc nL own D dA B Z d mc ms) (h : Wd D B s ws H locs) {a v i : Nat} {lt : List Nat} (hs : StrV dA B Z ws a v lt) (hi : i < lt.length) (hn : lt.length < 2147483648) (hdg : decode cc pc = .ok (.baload, 1))
    (kk : W p l e R s m args below meth c H locs cells slots Q (F0 m (pc + 1) ls (.int (sb_b (gD lt i)) :: rest))) : W p l e R s m args below meth c H locs cells slots Q (F0 m pc ls (.int (nI i) :: .ref v :: rest)) := by
  rcases hs with ⟨x2, x3, h1, h2⟩ | hs
  · exact n_bald C h h2 hi hn rfl hdg kk
  · obtain ⟨hx, hb, hml, hown, hts, hK, hN, hz, hZ, hB, hRf, hRl, hRc, hRs⟩ := C
    exact va_tb hx hb (hs s hz).2.2.2 h.2.2 (vp_in_nI hi hn) (v := .int (sb_b (gD lt i))) (by rw [nI_clamp (Nat.lt_trans hi hn)]) hdg kk
theorem s_recv (C : Cx p R s m args c cc nL own D dA B Z d mc ms) (h : Wd D B s ws H locs) {a v : Nat} {lt : List Nat} (hs : StrV dA B Z ws a v lt) : ∃ cell : Cell, H[a]? = some cell ∧ cell.vm.isStatics = false ∧ s.vm.findClass "java/lang/String" = some cell.cls := by
  rcases hs with ⟨x2, x3, h1, h2⟩ | hs
  · exact o_recv C h (RC := RJ13) (T := TJ13) (N := 4) h1 rfl
  · obtain ⟨hx, hb, hml, hown, hts, hK, hN, hz, hZ, hB, hRf, hRl, hRc, hRs⟩ := C
    obtain ⟨cell, e1, e2, e3, -⟩ := (hs s hz).1.kept h.2.2.2.1
    exact ⟨cell, e1, e2, e3⟩
theorem s_ldc (C : Cx p R s m args c cc nL own D dA B Z d mc ms) (h : Wd D B s ws H locs) {idx q : Nat} {tx : String} (hR : ∀ U : State, Z U → vk_R own idx tx q U) (hdg : decode cc pc = .ok (.ldc idx, 2))
    (kk : W p l e R s m args below meth c H locs cells slots Q (F0 m (pc + 2) ls (.ref q :: rest))) : W p l e R s m args below meth c H locs cells slots Q (F0 m pc ls rest) := by
  obtain ⟨hx, hb, hml, hown, hts, hK, hN, hz, hZ, hB, hRf, hRl, hRc, hRs⟩ := C
  exact va_ldcS hx hb hown (hR s hz) hdg kk
theorem s_ldcw (C : Cx p R s m args c cc nL own D dA B Z d mc ms) (h : Wd D B s ws H locs) {idx q : Nat} {tx : String} (hR : ∀ U : State, Z U → vk_R own idx tx q U) (hdg : decode cc pc = .ok (.ldc_w idx, 3))
    (kk : W p l e R s m args below meth c H locs cells slots Q (F0 m (pc + 3) ls (.ref q :: rest))) : W p l e R s m args below meth c H locs cells slots Q (F0 m pc ls rest) := by
  obtain ⟨hx, hb, hml, hown, hts, hK, hN, hz, hZ, hB, hRf, hRl, hRc, hRs⟩ := C
  have h9 := hR s hz
  intro T hT X
  obtain ⟨t, a1, b1⟩ := kk T hT X
  exact ⟨t, X.ldcStringW hx hown (text := tx) (a := q) h9.1 h9.2 (g := F0 m pc ls rest) rfl (by rw [hb]; exact hdg) t a1, b1⟩
theorem z_gets (C : Cx p R s m args c cc nL own D dA B Z d mc ms) (h : Wd D B s ws H locs) {idx : Nat} {CN n de ref : String} {v : Value} (hzs : ∀ U : State, Z U → va_Z CN n de v (bA B) U U.heap) (q : Cond.fieldLink own idx ref n de ∈ lw_all) (hCr : CN = ref) (hdg : decode cc pc = .ok (.getstatic idx, 3))
    (kk : W p l e R s m args below meth c H locs cells slots Q (F0 m (pc + 3) ls (v :: rest))) : W p l e R s m args below meth c H locs cells slots Q (F0 m pc ls rest) := by
  obtain ⟨hx, hb, hml, hown, hts, hK, hN, hz, hZ, hB, hRf, hRl, hRc, hRs⟩ := C
  exact va_gets hx hb (hzs s hz) h.2.2 hown (hts _ q) (fun _ h9 => hCr ▸ h9) hdg kk
/-- System.arraycopy of bytes of the world -/
theorem x_copyb (C : Cx p R s m args c cc nL own D dA B Z d mc ms) (h : Wd D B s ws H locs) (q1 : Nat) {a0 a n0 n1 sp dp n idx : Nat} {f g : Nat → Nat} (h0 : (a0, bar dA n0 f) ∈ ws) (h1 : ws[q1]? = some (a, bar dA n1 g)) (hlink : Cond.methodLink own idx arraycopyName ∈ lw_all) (hnat : Cond.native arraycopyName ∈ lw_all) (hstat : Cond.static arraycopyName ∈ lw_all) (hini : Cond.initialized "java/lang/System" ∈ lw_all)
    (h4 : sp + n ≤ n0) (h5 : dp + n ≤ n1) (hn0 : n0 < 2147483648) (hn1 : n1 < 2147483648) (hls : ls.size = nL) (hd : 1 ≤ d) (hroom : (rest.map fun v => v.category).sum ≤ 8) (hw : ws.set q1 (a, bar dA n1 (va_cpy f g sp dp n)) = ws')
    (hdg : decode cc pc = .ok (.invokestatic idx, 3)) (kk : ∀ (H1 : Heap) (locs1 : List Loc), Wd D B s ws' H1 locs1 → W p l e R s m args below meth c H1 locs1 cells slots Q (F0 m (pc + 3) ls rest)) : W p l e R s m args below meth c H locs cells slots Q (F0 m pc ls (.int (nI n) :: .int (nI dp) :: .ref a :: .int (nI sp) :: .ref a0 :: rest)) := by
  obtain ⟨hx, hb, hml, hown, hts, hK, hN, hz, hZ, hB, hRf, hRl, hRc, hRs⟩ := C
  obtain ⟨q0, hq⟩ := List.getElem?_of_mem h0
  have e1 : (nI sp).toNatClampNeg = sp := nI_clamp (by omega)
  have e2 : (nI dp).toNatClampNeg = dp := nI_clamp (by omega)
  have e3 : (nI n).toNatClampNeg = n := nI_clamp (by omega)
  refine va_copyi hx hb (hml.trans hls.symm) hown (hts _ hlink) (hts _ hnat) (hts _ hstat) (hts _ hini) hK h.1 h.2.1 h.2.2 q0 q1 1 1 (ty := .byte) hq h1 rfl rfl rfl (nI_pos (by omega)) (nI_pos (by omega)) (nI_pos (by omega)) (by rw [e1, e3]; exact h4) (by rw [e2, e3]; exact h5) (fun i _ => sb_fit _) (by rw [hRf]; exact hd) (by rw [hRl]; show _ + (nativeFrameWords "java/lang/System" "arraycopy" 5 + 11) ≤ _; have h40 := nfw_40; omega) hdg (fun H1 locs1 hP hD hS => kk H1 locs1 ?_)
  rw [e1, e2, e3] at hP hD
  have e4 : va_cpy (fun j => sb_b (f j)) (fun j => sb_b (g j)) sp dp n = fun j => sb_b (va_cpy f g sp dp n j) := by
    funext j; unfold va_cpy; split <;> rfl
  rw [e4] at hP hD
  rw [← hw]
  exact ⟨hP, hD, hS⟩
/-- and of a string's bytes -/
theorem s_copy (C : Cx p R s m args c cc nL own D dA B Z d mc ms) (h : Wd D B s ws H locs) (q1 : Nat) {a0 b0 a n1 dp n idx : Nat} {lt : List Nat} {g : Nat → Nat} (h0 : StrV dA B Z ws b0 a0 lt) (h1 : ws[q1]? = some (a, bar dA n1 g)) (hlink : Cond.methodLink own idx arraycopyName ∈ lw_all) (hnat : Cond.native arraycopyName ∈ lw_all) (hstat : Cond.static arraycopyName ∈ lw_all) (hini : Cond.initialized "java/lang/System" ∈ lw_all)
    (hn : n = lt.length) (h5 : dp + n ≤ n1) (hn0 : lt.length < 2147483648) (hn1 : n1 < 2147483648) (hls : ls.size = nL) (hd : 1 ≤ d) (hroom : (rest.map fun v => v.category).sum ≤ 8) (hw : ws.set q1 (a, bar dA n1 (va_cpy (gD lt) g 0 dp n)) = ws')
    (hdg : decode cc pc = .ok (.invokestatic idx, 3)) (kk : ∀ (H1 : Heap) (locs1 : List Loc), Wd D B s ws' H1 locs1 → W p l e R s m args below meth c H1 locs1 cells slots Q (F0 m (pc + 3) ls rest)) : W p l e R s m args below meth c H locs cells slots Q (F0 m pc ls (.int (nI n) :: .int (nI dp) :: .ref a :: .int (nI 0) :: .ref a0 :: rest)) := by
  rcases h0 with ⟨x2, x3, g1, g2⟩ | hs
  · exact x_copyb C h q1 g2 h1 hlink hnat hstat hini (by omega) h5 hn0 hn1 hls hd hroom hw hdg kk
  · obtain ⟨hx, hb, hml, hown, hts, hK, hN, hz, hZ, hB, hRf, hRl, hRc, hRs⟩ := C
    have e1 : (nI 0).toNatClampNeg = 0 := nI_clamp (by omega)
    have e2 : (nI dp).toNatClampNeg = dp := nI_clamp (by omega)
    have e3 : (nI n).toNatClampNeg = n := nI_clamp (by omega)
    refine vk_copyt hx hb (hml.trans hls.symm) hown (hts _ hlink) (hts _ hnat) (hts _ hstat) (hts _ hini) hK h.1 h.2.1 h.2.2 (f := fun j => sb_b (gD lt j)) (hs s hz).2.2.2 q1 1 h1 rfl (nI_pos (by omega)) (nI_pos (by omega)) (nI_pos (by omega)) (by rw [e1, e3]; omega) (by rw [e2, e3]; exact h5) (fun i _ => sb_fit _) (by rw [hRf]; exact hd) (by rw [hRl]; show _ + (nativeFrameWords "java/lang/System" "arraycopy" 5 + 11) ≤ _; have h40 := nfw_40; omega) hdg (fun H1 locs1 hP hD hS => kk H1 locs1 ?_)
    rw [e1, e2, e3] at hP hD
    have e4 : va_cpy (fun j => sb_b (gD lt j)) (fun j => sb_b (g j)) 0 dp n = fun j => sb_b (va_cpy (gD lt) g 0 dp n j) := by
      funext j; unfold va_cpy; split <;> rfl
    rw [e4] at hP hD
    rw [← hw]
    exact ⟨hP, hD, hS⟩
end XR
def strTab : List (String × Nat × String × List Nat) := [("SignetRing", 17, "SEALED KEYS", [83, 69, 65, 76, 69, 68, 32, 75, 69, 89, 83]),
  ("SignetRing", 19, "SEAL", [83, 69, 65, 76]),
  ("SignetRing", 21, "SEALED LETTER", [83, 69, 65, 76, 69, 68, 32, 76, 69, 84, 84, 69, 82]),
  ("SignetRing", 44, "-----BEGIN ", [45, 45, 45, 45, 45, 66, 69, 71, 73, 78, 32]),
  ("SignetRing", 50, "-----\n\n", [45, 45, 45, 45, 45, 10, 10]),
  ("SignetRing", 68, "\n-----END ", [10, 45, 45, 45, 45, 45, 69, 78, 68, 32]),
  ("SignetRing", 70, "-----\n", [45, 45, 45, 45, 45, 10]),
  ("SignetRing", 167, "-----", [45, 45, 45, 45, 45]),
  ("SignetRing", 528, "-----BEGIN SEAL-----", [45, 45, 45, 45, 45, 66, 69, 71, 73, 78, 32, 83, 69, 65, 76, 45, 45, 45, 45, 45]),
  ("SignetRing", 545, "-----BEGIN SEALED TEXT-----", [45, 45, 45, 45, 45, 66, 69, 71, 73, 78, 32, 83, 69, 65, 76, 69, 68, 32, 84, 69, 88, 84, 45, 45, 45, 45, 45]),
  ("SignetRing", 642, "-----BEGIN SEALED TEXT-----\nHash: SHA256\n\n", [45, 45, 45, 45, 45, 66, 69, 71, 73, 78, 32, 83, 69, 65, 76, 69, 68, 32, 84, 69, 88, 84, 45, 45, 45, 45, 45, 10, 72, 97, 115, 104, 58, 32, 83, 72, 65, 50, 53, 54, 10, 10]),
  ("SignetRing", 644, "- ", [45, 32]),
  ("SignetRing$Lines", 86, "-----END ", [45, 45, 45, 45, 45, 69, 78, 68, 32]),
  ("SignetRing$Lines", 92, "-----", [45, 45, 45, 45, 45]),
  ("SignetRingModel", 218, "SEALED KEYS", [83, 69, 65, 76, 69, 68, 32, 75, 69, 89, 83]),
  ("SignetRingModel", 220, "SEAL", [83, 69, 65, 76]),
  ("SignetRingModel", 222, "SEALED LETTER", [83, 69, 65, 76, 69, 68, 32, 76, 69, 84, 84, 69, 82]),
  ("SignetRingModel", 257, "-----END ", [45, 45, 45, 45, 45, 69, 78, 68, 32]),
  ("SignetRingModel", 263, "-----", [45, 45, 45, 45, 45]),
  ("SignetRingModel", 273, "-----BEGIN ", [45, 45, 45, 45, 45, 66, 69, 71, 73, 78, 32]),
  ("SignetRingModel", 594, "-----BEGIN SEAL-----", [45, 45, 45, 45, 45, 66, 69, 71, 73, 78, 32, 83, 69, 65, 76, 45, 45, 45, 45, 45]),
  ("SignetRingModel", 599, "-----BEGIN SEALED TEXT-----", [45, 45, 45, 45, 45, 66, 69, 71, 73, 78, 32, 83, 69, 65, 76, 69, 68, 32, 84, 69, 88, 84, 45, 45, 45, 45, 45]),
  ("SignetRingModel", 651, "Hash: SHA256", [72, 97, 115, 104, 58, 32, 83, 72, 65, 50, 53, 54]),
  ("SignetRingModel", 653, "- ", [45, 32])]
/-- what lies below: statics and constants -/
def ZS (dA : Nat → ClassId) (B : Nat) (Z : State → Prop) : Prop :=
  (∀ U : State, Z U → va_Z "java/lang/String" "COMPACT_STRINGS" "Z" (.int (bZ true)) (bA B) U U.heap) ∧
  (∃ o : Option Nat, ∀ U : State, Z U → va_Z "jdk/internal/util/Preconditions" "SIOOBE_FORMATTER" "Ljava/util/function/BiFunction;" (va_rf o) (bA B) U U.heap) ∧
  (∀ q ∈ strTab, ∃ a v : Nat, (∀ U : State, Z U → vk_R q.1 q.2.1 q.2.2.1 a U) ∧ StrV dA B Z [] a v q.2.2.2) ∧
  (∀ U : State, Z U → (Cond.arrayOver (.array .int)).before #[] U = true) ∧ (∀ U : State, Z U → va_AO "java/lang/Object" U) ∧ (∀ U : State, Z U → va_AO "java/lang/String" U)
