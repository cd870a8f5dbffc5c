set_option maxRecDepth 100000

section ZR
variable {p : Program} {l : Launch} {e : Env} {R : Room} {s : State} {m : MethodId} {args : Array Value} {below : List Frame} {meth : Method} {c : Code} {H : Heap} {locs : List Loc} {cells slots : Nat} {Q : State → Prop} {cc : ByteArray} {pc : Nat} {ls : Array Slot} {rest : List Value}
variable {nL : Nat} {own : String} {D : va_G} {dA : Nat → ClassId} {B : Nat} {Z : State → Prop} {d mc ms : Nat} {ws F : va_W} {h0 : Nat} {ad : Nat → Nat} {M : MS}
theorem bZ_nat (b : Bool) : nI b.toNat = bZ b := by cases b <;> rfl
theorem m_zast (C : Cx p R s m args c cc nL own D dA B Z d mc ms) (h : Wd D B s (mw dA h0 ad M ++ F) H locs) {i : Nat} {b : Bool} {w : Nat → Bool} (hw : mG M 70 = fun j => (w j).toNat) (hi : i < 3) (hdg : decode cc pc = .ok (.bastore, 1))
    (kk : ∀ (H1 : Heap) (locs1 : List Loc), Wd D B s (mw dA h0 ad (sG M 70 (fun j => (upN w i b j).toNat)) ++ F) H1 locs1 → W p l e R s m args below meth c H1 locs1 cells slots Q (F0 m (pc + 1) ls rest)) : W p l e R s m args below meth c H locs cells slots Q (F0 m pc ls (.int (bZ b) :: .int (nI i) :: .ref (ad 70) :: rest)) := by
  obtain ⟨hx, hb, hml, hown, hts, hK, hN, hz, hZ, hB, hRf, hRl, hRc, hRs⟩ := C
  have hcl : (nI i).toNatClampNeg = i := nI_clamp (by omega)
  refine va_zast hx hb hK h.1 h.2.1 h.2.2 21 3 (a := ad 70) (cA := dA 3) (n := 3) (f := fun j => nI (mG M 70 j)) rfl rfl (vp_in_nI hi (by decide)) hdg (fun H1 locs1 hP hD hS => kk H1 locs1 ?_)
  have e1 : vp_nar .boolean (bZ b) = nI b.toNat := by cases b <;> rfl
  rw [hcl, e1, upN_upd, upN_map nI, hw, upN_map Bool.toNat] at hP hD
  exact ⟨hP, hD, hS⟩
end ZR
theorem rf_nar (t : FieldType) (x : Option Nat) : narrow (.array t) (va_rf x) = va_rf x := by cases x <;> rfl
theorem rf_fit (t : FieldType) (x : Option Nat) : fits (.array t) (va_rf x) = true := by cases x <;> rfl
/-- what a seal's notes tell: made, ends, key ends, name, print, back, what, why, vain, which were sealed -/
abbrev NS : Type := Option Nat × Nat × Nat × Option (List Nat) × Option (List Nat) × Option (List Nat) × Option Nat × Option Nat × Bool × (Nat → Bool)
def oL (o : Option Nat) : Int64 := match o with | none => -1 | some v => lN v
def oI (o : Option Nat) : Int32 := match o with | none => -1 | some v => nI v
def RO (dA : Nat → ClassId) (F : va_W) (r : Option Nat) (o : Option (List Nat)) : Prop := match o with | none => r = none | some b => ∃ q, r = some q ∧ (q, ial dA b) ∈ F
theorem RO.up {dA : Nat → ClassId} {F E : va_W} {r : Option Nat} {o : Option (List Nat)} (h : RO dA F r o) : RO dA (F ++ E) r o := by
  cases o with
  | none => exact h
  | some b => obtain ⟨q, h1, h2⟩ := h; exact ⟨q, h1, List.mem_append_left _ h2⟩
def RN (dA : Nat → ClassId) (F : va_W) (nt : NS) (r : Option Nat × Option Nat × Option Nat) : Prop := RO dA F r.1 nt.2.2.2.1 ∧ RO dA F r.2.1 nt.2.2.2.2.1 ∧ RO dA F r.2.2 nt.2.2.2.2.2.1
theorem RN.up {dA : Nat → ClassId} {F E : va_W} {nt : NS} {r : Option Nat × Option Nat × Option Nat} (h : RN dA F nt r) : RN dA (F ++ E) nt r := ⟨h.1.up, h.2.1.up, h.2.2.up⟩
def noteS (nt : NS) (note : Nat) (gr sd : Bool) (b : List Nat) : NS × Bool :=
  if note = 2 ∨ note = 3 ∨ note = 9 then
    if b.length = 4 then ((if sd = true ∧ note = 2 then some (num b) else nt.1, if sd = true ∧ note = 3 then num b else nt.2.1, if sd = true ∧ note = 9 then num b else nt.2.2.1, nt.2.2.2), true) else (nt, false)
  else if note = 16 then
    if b.length = 8 then ((nt.1, nt.2.1, nt.2.2.1, if (sd || !(nt.2.2.2.2.2.2.2.2.2 0)) = true then some b else nt.2.2.2.1, nt.2.2.2.2.1, nt.2.2.2.2.2.1, nt.2.2.2.2.2.2.1, nt.2.2.2.2.2.2.2.1, nt.2.2.2.2.2.2.2.2.1, upN nt.2.2.2.2.2.2.2.2.2 0 (nt.2.2.2.2.2.2.2.2.2 0 || sd)), true) else (nt, false)
  else if note = 33 then
    if b.length = 21 ∧ gD b 0 = 4 then ((nt.1, nt.2.1, nt.2.2.1, nt.2.2.2.1, if (sd || !(nt.2.2.2.2.2.2.2.2.2 1)) = true then some (sliceL b 1 20) else nt.2.2.2.2.1, nt.2.2.2.2.2.1, nt.2.2.2.2.2.2.1, nt.2.2.2.2.2.2.2.1, nt.2.2.2.2.2.2.2.2.1, upN nt.2.2.2.2.2.2.2.2.2 1 (nt.2.2.2.2.2.2.2.2.2 1 || sd)), true) else (nt, false)
  else if note = 27 ∨ note = 29 then
    if b.length ≠ 0 then ((nt.1, nt.2.1, nt.2.2.1, nt.2.2.2.1, nt.2.2.2.2.1, nt.2.2.2.2.2.1, if sd = true ∧ note = 27 then some (gD b 0) else nt.2.2.2.2.2.2.1, if sd = true ∧ note = 29 then some (gD b 0) else nt.2.2.2.2.2.2.2.1, nt.2.2.2.2.2.2.2.2), true) else (nt, false)
  else if note = 32 then
    ((nt.1, nt.2.1, nt.2.2.1, nt.2.2.2.1, nt.2.2.2.2.1, if (sd || !(nt.2.2.2.2.2.2.2.2.2 2)) = true then some b else nt.2.2.2.2.2.1, nt.2.2.2.2.2.2.1, nt.2.2.2.2.2.2.2.1, nt.2.2.2.2.2.2.2.2.1, upN nt.2.2.2.2.2.2.2.2.2 2 (nt.2.2.2.2.2.2.2.2.2 2 || sd)), true)
  else ((nt.1, nt.2.1, nt.2.2.1, nt.2.2.2.1, nt.2.2.2.2.1, nt.2.2.2.2.2.1, nt.2.2.2.2.2.2.1, nt.2.2.2.2.2.2.2.1, nt.2.2.2.2.2.2.2.2.1 || sd && gr, nt.2.2.2.2.2.2.2.2.2), true)

def nM (M : MS) (x67 : Int32) (x68 : Int32) (x69 : Int32) (x61 : Int64) (x62 : Int64) (x63 : Int64) (x64 : Option Nat) (x65 : Option Nat) (x66 : Option Nat) (x70 : Nat → Nat) : MS := sG (sR (sR (sR (sL (sL (sL (sI (sI (sI M 67 x67) 68 x68) 69 x69) 61 x61) 62 x62) 63 x63) 64 x64) 65 x65) 66 x66) 70 x70
theorem nM_id (M : MS) : nM M (mI M 67) (mI M 68) (mI M 69) (mL M 61) (mL M 62) (mL M 63) (mR M 64) (mR M 65) (mR M 66) (mG M 70) = M := MS.ext (by
    show upN (upN (upN M.1 67 (M.1 67)) 68 (M.1 68)) 69 (M.1 69) = M.1
    rw [upN_same M.1 67 _ rfl, upN_same M.1 68 _ rfl, upN_same M.1 69 _ rfl]) (by
    show upN (upN (upN M.2.1 61 (M.2.1 61)) 62 (M.2.1 62)) 63 (M.2.1 63) = M.2.1
    rw [upN_same M.2.1 61 _ rfl, upN_same M.2.1 62 _ rfl, upN_same M.2.1 63 _ rfl]) (by
    show upN (upN (upN M.2.2.1 64 (M.2.2.1 64)) 65 (M.2.2.1 65)) 66 (M.2.2.1 66) = M.2.2.1
    rw [upN_same M.2.2.1 64 _ rfl, upN_same M.2.2.1 65 _ rfl, upN_same M.2.2.1 66 _ rfl]) (by
    show upN M.2.2.2.1 70 (M.2.2.2.1 70) = M.2.2.2.1
    rw [upN_same M.2.2.2.1 70 _ rfl]) rfl rfl
theorem nM_67 (M : MS) (x67 : Int32) (x68 : Int32) (x69 : Int32) (x61 : Int64) (x62 : Int64) (x63 : Int64) (x64 : Option Nat) (x65 : Option Nat) (x66 : Option Nat) (x70 : Nat → Nat) (y : Int32) : sI (nM M x67 x68 x69 x61 x62 x63 x64 x65 x66 x70) 67 y = nM M y x68 x69 x61 x62 x63 x64 x65 x66 x70 := MS.ext (by
    show upN (upN (upN (upN M.1 67 x67) 68 x68) 69 x69) 67 y = upN (upN (upN M.1 67 y) 68 x68) 69 x69
    rw [upN_comm _ _ _ (by decide : (69 : Nat) ≠ 67), upN_comm _ _ _ (by decide : (68 : Nat) ≠ 67), upN_upN]) rfl rfl rfl rfl rfl
theorem nM_68 (M : MS) (x67 : Int32) (x68 : Int32) (x69 : Int32) (x61 : Int64) (x62 : Int64) (x63 : Int64) (x64 : Option Nat) (x65 : Option Nat) (x66 : Option Nat) (x70 : Nat → Nat) (y : Int32) : sI (nM M x67 x68 x69 x61 x62 x63 x64 x65 x66 x70) 68 y = nM M x67 y x69 x61 x62 x63 x64 x65 x66 x70 := MS.ext (by
    show upN (upN (upN (upN M.1 67 x67) 68 x68) 69 x69) 68 y = upN (upN (upN M.1 67 x67) 68 y) 69 x69
    rw [upN_comm _ _ _ (by decide : (69 : Nat) ≠ 68), upN_upN]) rfl rfl rfl rfl rfl
theorem nM_69 (M : MS) (x67 : Int32) (x68 : Int32) (x69 : Int32) (x61 : Int64) (x62 : Int64) (x63 : Int64) (x64 : Option Nat) (x65 : Option Nat) (x66 : Option Nat) (x70 : Nat → Nat) (y : Int32) : sI (nM M x67 x68 x69 x61 x62 x63 x64 x65 x66 x70) 69 y = nM M x67 x68 y x61 x62 x63 x64 x65 x66 x70 := MS.ext (by
    show upN (upN (upN (upN M.1 67 x67) 68 x68) 69 x69) 69 y = upN (upN (upN M.1 67 x67) 68 x68) 69 y
    rw [upN_upN]) rfl rfl rfl rfl rfl
theorem nM_61 (M : MS) (x67 : Int32) (x68 : Int32) (x69 : Int32) (x61 : Int64) (x62 : Int64) (x63 : Int64) (x64 : Option Nat) (x65 : Option Nat) (x66 : Option Nat) (x70 : Nat → Nat) (y : Int64) : sL (nM M x67 x68 x69 x61 x62 x63 x64 x65 x66 x70) 61 y = nM M x67 x68 x69 y x62 x63 x64 x65 x66 x70 := MS.ext rfl (by
    show upN (upN (upN (upN M.2.1 61 x61) 62 x62) 63 x63) 61 y = upN (upN (upN M.2.1 61 y) 62 x62) 63 x63
    rw [upN_comm _ _ _ (by decide : (63 : Nat) ≠ 61), upN_comm _ _ _ (by decide : (62 : Nat) ≠ 61), upN_upN]) rfl rfl rfl rfl
theorem nM_62 (M : MS) (x67 : Int32) (x68 : Int32) (x69 : Int32) (x61 : Int64) (x62 : Int64) (x63 : Int64) (x64 : Option Nat) (x65 : Option Nat) (x66 : Option Nat) (x70 : Nat → Nat) (y : Int64) : sL (nM M x67 x68 x69 x61 x62 x63 x64 x65 x66 x70) 62 y = nM M x67 x68 x69 x61 y x63 x64 x65 x66 x70 := MS.ext rfl (by
    show upN (upN (upN (upN M.2.1 61 x61) 62 x62) 63 x63) 62 y = upN (upN (upN M.2.1 61 x61) 62 y) 63 x63
    rw [upN_comm _ _ _ (by decide : (63 : Nat) ≠ 62), upN_upN]) rfl rfl rfl rfl
theorem nM_63 (M : MS) (x67 : Int32) (x68 : Int32) (x69 : Int32) (x61 : Int64) (x62 : Int64) (x63 : Int64) (x64 : Option Nat) (x65 : Option Nat) (x66 : Option Nat) (x70 : Nat → Nat) (y : Int64) : sL (nM M x67 x68 x69 x61 x62 x63 x64 x65 x66 x70) 63 y = nM M x67 x68 x69 x61 x62 y x64 x65 x66 x70 := MS.ext rfl (by
    show upN (upN (upN (upN M.2.1 61 x61) 62 x62) 63 x63) 63 y = upN (upN (upN M.2.1 61 x61) 62 x62) 63 y
    rw [upN_upN]) rfl rfl rfl rfl
theorem nM_64 (M : MS) (x67 : Int32) (x68 : Int32) (x69 : Int32) (x61 : Int64) (x62 : Int64) (x63 : Int64) (x64 : Option Nat) (x65 : Option Nat) (x66 : Option Nat) (x70 : Nat → Nat) (y : Option Nat) : sR (nM M x67 x68 x69 x61 x62 x63 x64 x65 x66 x70) 64 y = nM M x67 x68 x69 x61 x62 x63 y x65 x66 x70 := MS.ext rfl rfl (by
    show upN (upN (upN (upN M.2.2.1 64 x64) 65 x65) 66 x66) 64 y = upN (upN (upN M.2.2.1 64 y) 65 x65) 66 x66
    rw [upN_comm _ _ _ (by decide : (66 : Nat) ≠ 64), upN_comm _ _ _ (by decide : (65 : Nat) ≠ 64), upN_upN]) rfl rfl rfl
theorem nM_65 (M : MS) (x67 : Int32) (x68 : Int32) (x69 : Int32) (x61 : Int64) (x62 : Int64) (x63 : Int64) (x64 : Option Nat) (x65 : Option Nat) (x66 : Option Nat) (x70 : Nat → Nat) (y : Option Nat) : sR (nM M x67 x68 x69 x61 x62 x63 x64 x65 x66 x70) 65 y = nM M x67 x68 x69 x61 x62 x63 x64 y x66 x70 := MS.ext rfl rfl (by
    show upN (upN (upN (upN M.2.2.1 64 x64) 65 x65) 66 x66) 65 y = upN (upN (upN M.2.2.1 64 x64) 65 y) 66 x66
    rw [upN_comm _ _ _ (by decide : (66 : Nat) ≠ 65), upN_upN]) rfl rfl rfl
theorem nM_66 (M : MS) (x67 : Int32) (x68 : Int32) (x69 : Int32) (x61 : Int64) (x62 : Int64) (x63 : Int64) (x64 : Option Nat) (x65 : Option Nat) (x66 : Option Nat) (x70 : Nat → Nat) (y : Option Nat) : sR (nM M x67 x68 x69 x61 x62 x63 x64 x65 x66 x70) 66 y = nM M x67 x68 x69 x61 x62 x63 x64 x65 y x70 := MS.ext rfl rfl (by
    show upN (upN (upN (upN M.2.2.1 64 x64) 65 x65) 66 x66) 66 y = upN (upN (upN M.2.2.1 64 x64) 65 x65) 66 y
    rw [upN_upN]) rfl rfl rfl
theorem nM_70 (M : MS) (x67 : Int32) (x68 : Int32) (x69 : Int32) (x61 : Int64) (x62 : Int64) (x63 : Int64) (x64 : Option Nat) (x65 : Option Nat) (x66 : Option Nat) (x70 : Nat → Nat) (y : Nat → Nat) : sG (nM M x67 x68 x69 x61 x62 x63 x64 x65 x66 x70) 70 y = nM M x67 x68 x69 x61 x62 x63 x64 x65 x66 y := MS.ext rfl rfl rfl (by
    show upN (upN M.2.2.2.1 70 x70) 70 y = upN M.2.2.2.1 70 y
    rw [upN_upN]) rfl rfl
theorem nM_re (M : MS) (x67 : Int32) (x68 : Int32) (x69 : Int32) (x61 : Int64) (x62 : Int64) (x63 : Int64) (x64 : Option Nat) (x65 : Option Nat) (x66 : Option Nat) (x70 : Nat → Nat) (y67 : Int32) (y68 : Int32) (y69 : Int32) (y61 : Int64) (y62 : Int64) (y63 : Int64) (y64 : Option Nat) (y65 : Option Nat) (y66 : Option Nat) (y70 : Nat → Nat) : nM (nM M x67 x68 x69 x61 x62 x63 x64 x65 x66 x70) y67 y68 y69 y61 y62 y63 y64 y65 y66 y70 = nM M y67 y68 y69 y61 y62 y63 y64 y65 y66 y70 := by
  show sG (sR (sR (sR (sL (sL (sL (sI (sI (sI (nM M x67 x68 x69 x61 x62 x63 x64 x65 x66 x70) 67 y67) 68 y68) 69 y69) 61 y61) 62 y62) 63 y63) 64 y64) 65 y65) 66 y66) 70 y70 = _
  rw [nM_67, nM_68, nM_69, nM_61, nM_62, nM_63, nM_64, nM_65, nM_66, nM_70]
def nWm (M : MS) (nt : NS) (r : Option Nat × Option Nat × Option Nat) : MS := nM M (oI nt.2.2.2.2.2.2.1) (oI nt.2.2.2.2.2.2.2.1) (bZ nt.2.2.2.2.2.2.2.2.1) (oL nt.1) (lN nt.2.1) (lN nt.2.2.1) r.1 r.2.1 r.2.2 (fun j => (nt.2.2.2.2.2.2.2.2.2 j).toNat)
set_option maxHeartbeats 400000 in
set_option maxRecDepth 100000 in
theorem c7_takes (l : Launch) (D : va_G) (dA : Nat → ClassId) (B : Nat) (Z : State → Prop) (hZ : Stab B Z) (h0 : Nat) (ad : Nat → Nat) (M : MS) (F : va_W) (i : Nat) (sd : Bool) (wz : Nat → Bool) (hw : mG M 70 = fun j => (wz j).toNat) (hi : i < 3) :
    Ct (S := Unit) l D dA B Z yX7_takes cX7_takes 4 (some .boolean) 1 0 0 [.ref h0, .int (nI i), .int (bZ sd)] (mw dA h0 ad M ++ F) (fun _ => True) (fun _ => some (.int (bZ (sd || !(wz i))))) (fun _ => mw dA h0 ad (sG M 70 (fun j => (upN wz i (wz i || sd) j).toNat)) ++ F) := by
  refine Ct.mk2 (by decide) (Nat.le_of_ble_eq_true rfl) hZ ?_
  intro p e R s m args below meth c ls Q C hr hlocks hin hQ hl h
  have C0 := C
  obtain ⟨hx, hb, hml, hown, hts, -⟩ := C0
  have hl : lv_has ls 4 [(0, .ref h0), (1, .int (nI i)), (2, .int (bZ sd))] := hl
  have ja : ∀ (tja : Bool), (tja = (sd || !(wz i))) → ∀ (H : Heap) (locs : List Loc), Wd D B s (mw dA h0 ad M ++ F) H locs → ∀ (ls : Array Slot), lv_has ls 4 [(0, .ref h0), (1, .int (nI i)), (2, .int (bZ sd))] → W p l e R s m args below meth c H locs 0 0 Q (F0 m 18 ls [.int (bZ tja)]) := by
    intro tja  hja H locs h ls hl
    refine lv_istore_n (lv' := [(3, .int (bZ tja)), (0, .ref h0), (1, .int (nI i)), (2, .int (bZ sd))]) hx hb dX7_takes_18 rfl hl (by decide) rfl (fun ls hl => ?_)
    refine lv_aload_n hx hb dX7_takes_19 rfl (lv_at hl 1 rfl) ?_
    refine m_gc C h 70 (by decide) rfl rfl q1940 dX7_takes_20 ?_
    refine lv_iload_n hx hb dX7_takes_23 rfl (lv_at hl 2 rfl) ?_
    have jb : ∀ (tjb : Bool), (tjb = (wz i || sd)) → ∀ (H : Heap) (locs : List Loc), Wd D B s (mw dA h0 ad M ++ F) H locs → ∀ (ls : Array Slot), lv_has ls 4 [(3, .int (bZ tja)), (0, .ref h0), (1, .int (nI i)), (2, .int (bZ sd))] → W p l e R s m args below meth c H locs 0 0 Q (F0 m 42 ls [.int (bZ tjb), .int (nI i), .ref (ad 70)]) := by
      intro tjb  hjb H locs h ls hl
      refine m_zast C h (b := tjb) hw hi dX7_takes_42 (fun H locs h => ?_)
      refine lv_iload_n hx hb dX7_takes_43 rfl (lv_at hl 0 rfl) ?_
      subst hQ
      subst hja hjb
      exact ret_z C hr hlocks h () trivial rfl rfl (by omega) (by omega) dX7_takes_44
    refine lv_aload_n hx hb dX7_takes_24 rfl (lv_at hl 1 rfl) ?_
    refine m_gc C h 70 (by decide) rfl rfl q1940 dX7_takes_25 ?_
    refine lv_iload_n hx hb dX7_takes_28 rfl (lv_at hl 2 rfl) ?_
    refine n_zald C h (v := (wz i).toNat) (mw_memZ) (show i < 3 by omega) (by decide) (congrFun hw _) dX7_takes_29 ?_
    refine n_top (y := bZ (wz i)) (bZ_nat _) ?_
    refine z_if_ne (tgt := 37) hx hb dX7_takes_30 (by decide) (fun c30 => ?_) (fun c30 => ?_)
    · refine lv_iconst (v := nI 1) hx hb dX7_takes_37 (by decide) ?_
      refine lv_goto (tgt := 42) hx hb dX7_takes_38 (by decide) ?_
      refine n_top (y := bZ true) rfl ?_
      exact jb true (by simp [*]) _ _ h _ (lv_sub hl [0, 1, 2, 3] rfl)
    · refine lv_iload_n hx hb dX7_takes_33 rfl (lv_at hl 3 rfl) ?_
      refine z_if_eq (tgt := 41) hx hb dX7_takes_34 (by decide) (fun c34 => ?_) (fun c34 => ?_)
      · refine lv_iconst (v := nI 0) hx hb dX7_takes_41 (by decide) ?_
        refine n_top (y := bZ false) rfl ?_
        exact jb false (by simp [*]) _ _ h _ (lv_sub hl [0, 1, 2, 3] rfl)
      · refine lv_iconst (v := nI 1) hx hb dX7_takes_37 (by decide) ?_
        refine lv_goto (tgt := 42) hx hb dX7_takes_38 (by decide) ?_
        refine n_top (y := bZ true) rfl ?_
        exact jb true (by simp [*]) _ _ h _ (lv_sub hl [0, 1, 2, 3] rfl)
  refine lv_iload_n hx hb dX7_takes_0 rfl (lv_at hl 2 rfl) ?_
  refine z_if_ne (tgt := 13) hx hb dX7_takes_1 (by decide) (fun c1 => ?_) (fun c1 => ?_)
  · refine lv_iconst (v := nI 1) hx hb dX7_takes_13 (by decide) ?_
    refine lv_goto (tgt := 18) hx hb dX7_takes_14 (by decide) ?_
    refine n_top (y := bZ true) rfl ?_
    exact ja true (by simp [*]) _ _ h _ (lv_sub hl [0, 1, 2] rfl)
  · refine lv_aload_n hx hb dX7_takes_4 rfl (lv_at hl 0 rfl) ?_
    refine m_gc C h 70 (by decide) rfl rfl q1940 dX7_takes_5 ?_
    refine lv_iload_n hx hb dX7_takes_8 rfl (lv_at hl 1 rfl) ?_
    refine n_zald C h (v := (wz i).toNat) (mw_memZ) (show i < 3 by omega) (by decide) (congrFun hw _) dX7_takes_9 ?_
    refine n_top (y := bZ (wz i)) (bZ_nat _) ?_
    refine z_if_ne (tgt := 17) hx hb dX7_takes_10 (by decide) (fun c10 => ?_) (fun c10 => ?_)
    · refine lv_iconst (v := nI 0) hx hb dX7_takes_17 (by decide) ?_
      refine n_top (y := bZ false) rfl ?_
      exact ja false (by simp [*]) _ _ h _ (lv_sub hl [0, 1, 2] rfl)
    · refine lv_iconst (v := nI 1) hx hb dX7_takes_13 (by decide) ?_
      refine lv_goto (tgt := 18) hx hb dX7_takes_14 (by decide) ?_
      refine n_top (y := bZ true) rfl ?_
      exact ja true (by simp [*]) _ _ h _ (lv_sub hl [0, 1, 2] rfl)
set_option maxHeartbeats 400000 in
set_option maxRecDepth 100000 in
theorem c7_hasEnded (l : Launch) (D : va_G) (dA : Nat → ClassId) (B : Nat) (Z : State → Prop) (hZ : Stab B Z) (h0 : Nat) (ad : Nat → Nat) (M : MS) (F : va_W) (v n t : Nat) (h1 : mL M 61 = lN v) (h2 : mL M 62 = lN n) (h3 : v < 4294967296) (h4 : n < 4294967296) (h5 : t < 4294967296) :
    Ct (S := Unit) l D dA B Z yX7_hasEnded cX7_hasEnded 3 (some .boolean) 1 0 0 [.ref h0, .long (lN t)] (mw dA h0 ad M ++ F) (fun _ => True) (fun _ => some (.int (bZ (decide (0 < n ∧ v + n ≤ t))))) (fun _ => mw dA h0 ad M ++ F) := by
  refine Ct.mk2 (by decide) (Nat.le_of_ble_eq_true rfl) hZ ?_
  intro p e R s m args below meth c ls Q C hr hlocks hin hQ hl h
  have C0 := C
  obtain ⟨hx, hb, hml, hown, hts, -⟩ := C0
  have hl : lv_has ls 3 [(0, .ref h0), (1, .long (lN t))] := hl
  have ja : ∀ (tja : Bool), (tja = decide (0 < n ∧ v + n ≤ t)) → ∀ (H : Heap) (locs : List Loc), Wd D B s (mw dA h0 ad M ++ F) H locs → ∀ (ls : Array Slot), lv_has ls 3 [(0, .ref h0), (1, .long (lN t))] → W p l e R s m args below meth c H locs 0 0 Q (F0 m 28 ls [.int (bZ tja)]) := by
    intro tja  hja H locs h ls hl
    subst hQ
    subst hja
    exact ret_z C hr hlocks h () trivial rfl rfl (by omega) (by omega) dX7_hasEnded_28
  refine lv_aload_n hx hb dX7_hasEnded_0 rfl (lv_at hl 0 rfl) ?_
  refine m_gl C h 62 (by decide) rfl rfl q1932 (v := lN n) h2 dX7_hasEnded_1 ?_
  refine lv_lconst (v := lN 0) hx hb dX7_hasEnded_4 (by decide) ?_
  refine n_lcmp_le (tgt := 27) hx hb (by omega) (by omega) dX7_hasEnded_5 dX7_hasEnded_6 (by decide) (fun c5 => ?_) (fun c5 => ?_)
  · refine lv_iconst (v := nI 0) hx hb dX7_hasEnded_27 (by decide) ?_
    refine n_top (y := bZ false) rfl ?_
    exact ja false (by rw [decide_eq_false (by omega)]) _ _ h _ (lv_sub hl [0, 1] rfl)
  · refine lv_aload_n hx hb dX7_hasEnded_9 rfl (lv_at hl 0 rfl) ?_
    refine m_gl C h 61 (by decide) rfl rfl q1931 (v := lN v) h1 dX7_hasEnded_10 ?_
    refine lv_aload_n hx hb dX7_hasEnded_13 rfl (lv_at hl 0 rfl) ?_
    refine m_gl C h 62 (by decide) rfl rfl q1932 (v := lN n) h2 dX7_hasEnded_14 ?_
    refine lv_ladd hx hb dX7_hasEnded_17 (n_topl (y := lN (v + n)) (lN_add v n) ?_)
    refine lv_lload_n hx hb dX7_hasEnded_18 rfl (lv_at hl 1 rfl) ?_
    refine n_lcmp_gt (tgt := 27) hx hb (by omega) (by omega) dX7_hasEnded_19 dX7_hasEnded_20 (by decide) (fun c19 => ?_) (fun c19 => ?_)
    · refine lv_iconst (v := nI 0) hx hb dX7_hasEnded_27 (by decide) ?_
      refine n_top (y := bZ false) rfl ?_
      exact ja false (by rw [decide_eq_false (by omega)]) _ _ h _ (lv_sub hl [0, 1] rfl)
    · refine lv_iconst (v := nI 1) hx hb dX7_hasEnded_23 (by decide) ?_
      refine lv_goto (tgt := 28) hx hb dX7_hasEnded_24 (by decide) ?_
      refine n_top (y := bZ true) rfl ?_
      exact ja true (by rw [decide_eq_true (by omega)]) _ _ h _ (lv_sub hl [0, 1] rfl)
set_option maxHeartbeats 400000 in
set_option maxRecDepth 100000 in
theorem c7_readNote (l : Launch) (D : va_G) (dA : Nat → ClassId) (B : Nat) (Z : State → Prop) (hZ : Stab B Z) (h0 : Nat) (ad : Nat → Nat) (M : MS) (F : va_W) (nt : NS) (r : Option Nat × Option Nat × Option Nat) (note : Nat) (gr sd : Bool) (a : Nat) (lb : List Nat) (hR : RN dA F nt r) (hn : note < 1000) (hm : (a, ial dA lb) ∈ F) (hby : byt lb) (hl5 : lb.length ≤ 5000) :
    Ct (S := (Option Nat × Option Nat × Option Nat) × va_W) l D dA B Z yX7_readNote cX7_readNote 8 (some .boolean) 2 (lb.length / 21) lb.length [.ref h0, .int (nI note), .int (bZ gr), .int (bZ sd), .ref a] (mw dA h0 ad (nWm M nt r) ++ F) (fun u => RN dA (F ++ u.2) (noteS nt note gr sd lb).1 u.1) (fun _ => some (.int (bZ (noteS nt note gr sd lb).2))) (fun u => mw dA h0 ad (nWm M (noteS nt note gr sd lb).1 u.1) ++ (F ++ u.2)) := by
  refine Ct.mk2 (by decide) (Nat.le_of_ble_eq_true rfl) hZ ?_
  intro p e R s m args below meth c ls Q C hr hlocks hin hQ hl h
  have C0 := C
  obtain ⟨hx, hb, hml, hown, hts, -⟩ := C0
  have hl : lv_has ls 8 [(0, .ref h0), (1, .int (nI note)), (2, .int (bZ gr)), (3, .int (bZ sd)), (4, .ref a)] := hl
  unfold nWm at h
  have h : Wd D B s (mw dA h0 ad (nM M (oI nt.2.2.2.2.2.2.1) (oI nt.2.2.2.2.2.2.2.1) (bZ nt.2.2.2.2.2.2.2.2.1) (oL nt.1) (lN nt.2.1) (lN nt.2.2.1) r.1 r.2.1 r.2.2 (fun j => (nt.2.2.2.2.2.2.2.2.2 j).toNat)) ++ F) s.heap [] := h
  have hg0 := byt_gD hby 0
  refine lv_aload hx hb dX7_readNote_0 (lv_at hl 4 rfl) ?_
  refine n_alen C h (List.mem_append_right _ hm) dX7_readNote_2 ?_
  refine lv_istore (lv' := [(5, .int (nI lb.length)), (0, .ref h0), (1, .int (nI note)), (2, .int (bZ gr)), (3, .int (bZ sd)), (4, .ref a)]) hx hb dX7_readNote_3 hl (by decide) rfl (fun ls hl => ?_)
  have jn1 : (note = 2 ∨ note = 3 ∨ note = 9) → ∀ (H : Heap) (locs : List Loc), Wd D B s (mw dA h0 ad (nM M (oI nt.2.2.2.2.2.2.1) (oI nt.2.2.2.2.2.2.2.1) (bZ nt.2.2.2.2.2.2.2.2.1) (oL nt.1) (lN nt.2.1) (lN nt.2.2.1) r.1 r.2.1 r.2.2 (fun j => (nt.2.2.2.2.2.2.2.2.2 j).toNat)) ++ F) H locs → ∀ (ls : Array Slot), lv_has ls 8 [(5, .int (nI lb.length)), (0, .ref h0), (1, .int (nI note)), (2, .int (bZ gr)), (3, .int (bZ sd)), (4, .ref a)] → W p l e R s m args below meth c H locs 0 0 Q (F0 m 21 ls []) := by
    intro  hn1 H locs h ls hl
    refine lv_iload hx hb dX7_readNote_21 (lv_at hl 0 rfl) ?_
    refine lv_iconst (v := nI 4) hx hb dX7_readNote_23 (by decide) ?_
    refine n_icmp_eq (tgt := 29) hx hb (by omega) (by omega) dX7_readNote_24 (by decide) (fun c24 => ?_) (fun c24 => ?_)
    · refine lv_aload hx hb dX7_readNote_29 (lv_at hl 5 rfl) ?_
      refine lv_iconst (v := nI 0) hx hb dX7_readNote_31 (by decide) ?_
      refine lv_iconst (v := nI 4) hx hb dX7_readNote_32 (by decide) ?_
      refine call_S (As := [.ref a, .int (nI 0), .int (nI 4)]) (rest := []) (n := 3) C h (c7_number l D dA B Z hZ _ a lb.length (gD lb) 0 4 (List.mem_append_right _ hm) (by omega) (by omega) (fun j _ => Nat.lt_trans (byt_gD hby j) (by decide))) (lw_S q2278 q2279 q138 q2280) (by decide +kernel) (by decide) (by decide) rfl hl rfl (Nat.le_of_ble_eq_true rfl) dX7_readNote_33 (by omega) (fun _ H locs _ h => ?_)
      rw [show sl (gD lb) 0 4 = lb from by rw [← c24, sl_gD]]
      refine lv_lstore (lv' := [(6, .long (lN (num lb))), (5, .int (nI lb.length)), (0, .ref h0), (1, .int (nI note)), (2, .int (bZ gr)), (3, .int (bZ sd)), (4, .ref a)]) hx hb dX7_readNote_36 hl (by decide) rfl (fun ls hl => ?_)
      refine lv_aload_n hx hb dX7_readNote_38 rfl (lv_at hl 2 rfl) ?_
      have jm1 : ∀ (H : Heap) (locs : List Loc), Wd D B s (mw dA h0 ad (nM M (oI nt.2.2.2.2.2.2.1) (oI nt.2.2.2.2.2.2.2.1) (bZ nt.2.2.2.2.2.2.2.2.1) (oL nt.1) (lN nt.2.1) (lN nt.2.2.1) r.1 r.2.1 r.2.2 (fun j => (nt.2.2.2.2.2.2.2.2.2 j).toNat)) ++ F) H locs → ∀ (ls : Array Slot), lv_has ls 8 [(6, .long (lN (num lb))), (5, .int (nI lb.length)), (0, .ref h0), (1, .int (nI note)), (2, .int (bZ gr)), (3, .int (bZ sd)), (4, .ref a)] → W p l e R s m args below meth c H locs (0 + 0) (0 + 0) Q (F0 m 57 ls [.long (oL (if sd = true ∧ note = 2 then some (num lb) else nt.1)), .ref h0]) := by
        intro   H locs h ls hl
        refine m_pl C h 61 (v := oL (if sd = true ∧ note = 2 then some (num lb) else nt.1)) (by decide) rfl rfl rfl q1931 rfl rfl dX7_readNote_57 (fun H locs h => ?_)
        rw [nM_61] at h
        have h : Wd D B s (mw dA h0 ad (nM M (oI nt.2.2.2.2.2.2.1) (oI nt.2.2.2.2.2.2.2.1) (bZ nt.2.2.2.2.2.2.2.2.1) (oL (if sd = true ∧ note = 2 then some (num lb) else nt.1)) (lN nt.2.1) (lN nt.2.2.1) r.1 r.2.1 r.2.2 (fun j => (nt.2.2.2.2.2.2.2.2.2 j).toNat)) ++ F) H locs := h
        refine lv_aload_n hx hb dX7_readNote_60 rfl (lv_at hl 2 rfl) ?_
        have jm2 : ∀ (H : Heap) (locs : List Loc), Wd D B s (mw dA h0 ad (nM M (oI nt.2.2.2.2.2.2.1) (oI nt.2.2.2.2.2.2.2.1) (bZ nt.2.2.2.2.2.2.2.2.1) (oL (if sd = true ∧ note = 2 then some (num lb) else nt.1)) (lN nt.2.1) (lN nt.2.2.1) r.1 r.2.1 r.2.2 (fun j => (nt.2.2.2.2.2.2.2.2.2 j).toNat)) ++ F) H locs → ∀ (ls : Array Slot), lv_has ls 8 [(6, .long (lN (num lb))), (5, .int (nI lb.length)), (0, .ref h0), (1, .int (nI note)), (2, .int (bZ gr)), (3, .int (bZ sd)), (4, .ref a)] → W p l e R s m args below meth c H locs (0 + 0) (0 + 0) Q (F0 m 79 ls [.long (lN (if sd = true ∧ note = 3 then num lb else nt.2.1)), .ref h0]) := by
          intro   H locs h ls hl
          refine m_pl C h 62 (v := lN (if sd = true ∧ note = 3 then num lb else nt.2.1)) (by decide) rfl rfl rfl q1932 rfl rfl dX7_readNote_79 (fun H locs h => ?_)
          rw [nM_62] at h
          have h : Wd D B s (mw dA h0 ad (nM M (oI nt.2.2.2.2.2.2.1) (oI nt.2.2.2.2.2.2.2.1) (bZ nt.2.2.2.2.2.2.2.2.1) (oL (if sd = true ∧ note = 2 then some (num lb) else nt.1)) (lN (if sd = true ∧ note = 3 then num lb else nt.2.1)) (lN nt.2.2.1) r.1 r.2.1 r.2.2 (fun j => (nt.2.2.2.2.2.2.2.2.2 j).toNat)) ++ F) H locs := h
          refine lv_aload_n hx hb dX7_readNote_82 rfl (lv_at hl 2 rfl) ?_
          have jm3 : ∀ (H : Heap) (locs : List Loc), Wd D B s (mw dA h0 ad (nM M (oI nt.2.2.2.2.2.2.1) (oI nt.2.2.2.2.2.2.2.1) (bZ nt.2.2.2.2.2.2.2.2.1) (oL (if sd = true ∧ note = 2 then some (num lb) else nt.1)) (lN (if sd = true ∧ note = 3 then num lb else nt.2.1)) (lN nt.2.2.1) r.1 r.2.1 r.2.2 (fun j => (nt.2.2.2.2.2.2.2.2.2 j).toNat)) ++ F) H locs → ∀ (ls : Array Slot), lv_has ls 8 [(6, .long (lN (num lb))), (5, .int (nI lb.length)), (0, .ref h0), (1, .int (nI note)), (2, .int (bZ gr)), (3, .int (bZ sd)), (4, .ref a)] → W p l e R s m args below meth c H locs (0 + 0) (0 + 0) Q (F0 m 102 ls [.long (lN (if sd = true ∧ note = 9 then num lb else nt.2.2.1)), .ref h0]) := by
            intro   H locs h ls hl
            refine m_pl C h 63 (v := lN (if sd = true ∧ note = 9 then num lb else nt.2.2.1)) (by decide) rfl rfl rfl q1933 rfl rfl dX7_readNote_102 (fun H locs h => ?_)
            rw [nM_63] at h
            have h : Wd D B s (mw dA h0 ad (nM M (oI nt.2.2.2.2.2.2.1) (oI nt.2.2.2.2.2.2.2.1) (bZ nt.2.2.2.2.2.2.2.2.1) (oL (if sd = true ∧ note = 2 then some (num lb) else nt.1)) (lN (if sd = true ∧ note = 3 then num lb else nt.2.1)) (lN (if sd = true ∧ note = 9 then num lb else nt.2.2.1)) r.1 r.2.1 r.2.2 (fun j => (nt.2.2.2.2.2.2.2.2.2 j).toNat)) ++ F) H locs := h
            refine lv_goto (tgt := 329) hx hb dX7_readNote_105 (by decide) ?_
            refine lv_iconst (v := nI 1) hx hb dX7_readNote_329 (by decide) ?_
            subst hQ
            have h : Wd D B s (mw dA h0 ad (nM M (oI nt.2.2.2.2.2.2.1) (oI nt.2.2.2.2.2.2.2.1) (bZ nt.2.2.2.2.2.2.2.2.1) (oL (if sd = true ∧ note = 2 then some (num lb) else nt.1)) (lN (if sd = true ∧ note = 3 then num lb else nt.2.1)) (lN (if sd = true ∧ note = 9 then num lb else nt.2.2.1)) r.1 r.2.1 r.2.2 (fun j => (nt.2.2.2.2.2.2.2.2.2 j).toNat)) ++ (F ++ [])) H locs := by rw [List.append_nil]; exact h
            have hfin := congrArg Prod.fst (show noteS nt note gr sd lb = _ by unfold noteS; rw [if_pos hn1, if_pos (by omega)])
            have hfin2 := congrArg Prod.snd (show noteS nt note gr sd lb = _ by unfold noteS; rw [if_pos hn1, if_pos (by omega)])
            refine n_top (y := bZ true) rfl ?_
            exact ret_z C hr hlocks h ((r.1, r.2.1, r.2.2), []) (by rw [hfin]; exact ⟨hR.1.up, hR.2.1.up, hR.2.2.up⟩) (by rw [hfin2]; try rfl) (by rw [hfin]; try rfl) (by omega) (by omega) dX7_readNote_330
          refine lv_iload_n hx hb dX7_readNote_83 rfl (lv_at hl 5 rfl) ?_
          refine z_if_eq (tgt := 98) hx hb dX7_readNote_84 (by decide) (fun c84 => ?_) (fun c84 => ?_)
          · refine lv_aload_n hx hb dX7_readNote_98 rfl (lv_at hl 2 rfl) ?_
            refine m_gl C h 63 (by decide) rfl rfl q1933 (v := lN nt.2.2.1) rfl dX7_readNote_99 ?_
            refine n_topl (y := lN (if sd = true ∧ note = 9 then num lb else nt.2.2.1)) (by rw [if_neg (fun q => by first | exact c90 q.2 | exact absurd (q.1.symm.trans c84) (by decide))]) ?_
            exact jm3   _ _ h _ (lv_sub hl [0, 1, 2, 3, 4, 5, 6] rfl)
          · refine lv_iload_n hx hb dX7_readNote_87 rfl (lv_at hl 3 rfl) ?_
            refine lv_bipush (v := nI 9) hx hb dX7_readNote_88 (by decide) ?_
            refine n_icmp_ne (tgt := 98) hx hb (by omega) (by omega) dX7_readNote_90 (by decide) (fun c90 => ?_) (fun c90 => ?_)
            · refine lv_aload_n hx hb dX7_readNote_98 rfl (lv_at hl 2 rfl) ?_
              refine m_gl C h 63 (by decide) rfl rfl q1933 (v := lN nt.2.2.1) rfl dX7_readNote_99 ?_
              refine n_topl (y := lN (if sd = true ∧ note = 9 then num lb else nt.2.2.1)) (by rw [if_neg (fun q => by first | exact c90 q.2 | exact absurd (q.1.symm.trans c84) (by decide))]) ?_
              exact jm3   _ _ h _ (lv_sub hl [0, 1, 2, 3, 4, 5, 6] rfl)
            · refine lv_lload hx hb dX7_readNote_93 (lv_at hl 0 rfl) ?_
              refine lv_goto (tgt := 102) hx hb dX7_readNote_95 (by decide) ?_
              refine n_topl (y := lN (if sd = true ∧ note = 9 then num lb else nt.2.2.1)) (by rw [if_pos ⟨c84, c90⟩]) ?_
              exact jm3   _ _ h _ (lv_sub hl [0, 1, 2, 3, 4, 5, 6] rfl)
        refine lv_iload_n hx hb dX7_readNote_61 rfl (lv_at hl 5 rfl) ?_
        refine z_if_eq (tgt := 75) hx hb dX7_readNote_62 (by decide) (fun c62 => ?_) (fun c62 => ?_)
        · refine lv_aload_n hx hb dX7_readNote_75 rfl (lv_at hl 2 rfl) ?_
          refine m_gl C h 62 (by decide) rfl rfl q1932 (v := lN nt.2.1) rfl dX7_readNote_76 ?_
          refine n_topl (y := lN (if sd = true ∧ note = 3 then num lb else nt.2.1)) (by rw [if_neg (fun q => by first | exact c67 q.2 | exact absurd (q.1.symm.trans c62) (by decide))]) ?_
          exact jm2   _ _ h _ (lv_sub hl [0, 1, 2, 3, 4, 5, 6] rfl)
        · refine lv_iload_n hx hb dX7_readNote_65 rfl (lv_at hl 3 rfl) ?_
          refine lv_iconst (v := nI 3) hx hb dX7_readNote_66 (by decide) ?_
          refine n_icmp_ne (tgt := 75) hx hb (by omega) (by omega) dX7_readNote_67 (by decide) (fun c67 => ?_) (fun c67 => ?_)
          · refine lv_aload_n hx hb dX7_readNote_75 rfl (lv_at hl 2 rfl) ?_
            refine m_gl C h 62 (by decide) rfl rfl q1932 (v := lN nt.2.1) rfl dX7_readNote_76 ?_
            refine n_topl (y := lN (if sd = true ∧ note = 3 then num lb else nt.2.1)) (by rw [if_neg (fun q => by first | exact c67 q.2 | exact absurd (q.1.symm.trans c62) (by decide))]) ?_
            exact jm2   _ _ h _ (lv_sub hl [0, 1, 2, 3, 4, 5, 6] rfl)
          · refine lv_lload hx hb dX7_readNote_70 (lv_at hl 0 rfl) ?_
            refine lv_goto (tgt := 79) hx hb dX7_readNote_72 (by decide) ?_
            refine n_topl (y := lN (if sd = true ∧ note = 3 then num lb else nt.2.1)) (by rw [if_pos ⟨c62, c67⟩]) ?_
            exact jm2   _ _ h _ (lv_sub hl [0, 1, 2, 3, 4, 5, 6] rfl)
      refine lv_iload_n hx hb dX7_readNote_39 rfl (lv_at hl 5 rfl) ?_
      refine z_if_eq (tgt := 53) hx hb dX7_readNote_40 (by decide) (fun c40 => ?_) (fun c40 => ?_)
      · refine lv_aload_n hx hb dX7_readNote_53 rfl (lv_at hl 2 rfl) ?_
        refine m_gl C h 61 (by decide) rfl rfl q1931 (v := oL nt.1) rfl dX7_readNote_54 ?_
        refine n_topl (y := oL (if sd = true ∧ note = 2 then some (num lb) else nt.1)) (by rw [if_neg (fun q => by first | exact c45 q.2 | exact absurd (q.1.symm.trans c40) (by decide))]) ?_
        exact jm1   _ _ h _ (lv_sub hl [0, 1, 2, 3, 4, 5, 6] rfl)
      · refine lv_iload_n hx hb dX7_readNote_43 rfl (lv_at hl 3 rfl) ?_
        refine lv_iconst (v := nI 2) hx hb dX7_readNote_44 (by decide) ?_
        refine n_icmp_ne (tgt := 53) hx hb (by omega) (by omega) dX7_readNote_45 (by decide) (fun c45 => ?_) (fun c45 => ?_)
        · refine lv_aload_n hx hb dX7_readNote_53 rfl (lv_at hl 2 rfl) ?_
          refine m_gl C h 61 (by decide) rfl rfl q1931 (v := oL nt.1) rfl dX7_readNote_54 ?_
          refine n_topl (y := oL (if sd = true ∧ note = 2 then some (num lb) else nt.1)) (by rw [if_neg (fun q => by first | exact c45 q.2 | exact absurd (q.1.symm.trans c40) (by decide))]) ?_
          exact jm1   _ _ h _ (lv_sub hl [0, 1, 2, 3, 4, 5, 6] rfl)
        · refine lv_lload hx hb dX7_readNote_48 (lv_at hl 0 rfl) ?_
          refine lv_goto (tgt := 57) hx hb dX7_readNote_50 (by decide) ?_
          refine n_topl (y := oL (if sd = true ∧ note = 2 then some (num lb) else nt.1)) (by rw [if_pos ⟨c40, c45⟩]; rfl) ?_
          exact jm1   _ _ h _ (lv_sub hl [0, 1, 2, 3, 4, 5, 6] rfl)
    · refine lv_iconst (v := nI 0) hx hb dX7_readNote_27 (by decide) ?_
      subst hQ
      have hfin : noteS nt note gr sd lb = (nt, false) := by unfold noteS; rw [if_pos hn1, if_neg (by omega)]
      have h : Wd D B s (mw dA h0 ad (nWm M nt r) ++ (F ++ [])) H locs := by rw [List.append_nil]; exact h
      refine n_top (y := bZ false) rfl ?_
      exact ret_z C hr hlocks h (r, []) (by rw [hfin]; exact hR.up) (by rw [hfin]) (by rw [hfin]) (by omega) (by omega) dX7_readNote_28
  refine lv_iload_n hx hb dX7_readNote_5 rfl (lv_at hl 2 rfl) ?_
  refine lv_iconst (v := nI 2) hx hb dX7_readNote_6 (by decide) ?_
  refine n_icmp_eq (tgt := 21) hx hb (by omega) (by omega) dX7_readNote_7 (by decide) (fun c7 => ?_) (fun c7 => ?_)
  · exact jn1  (by omega) _ _ h _ (lv_sub hl [0, 1, 2, 3, 4, 5] rfl)
  · refine lv_iload_n hx hb dX7_readNote_10 rfl (lv_at hl 2 rfl) ?_
    refine lv_iconst (v := nI 3) hx hb dX7_readNote_11 (by decide) ?_
    refine n_icmp_eq (tgt := 21) hx hb (by omega) (by omega) dX7_readNote_12 (by decide) (fun c12 => ?_) (fun c12 => ?_)
    · exact jn1  (by omega) _ _ h _ (lv_sub hl [0, 1, 2, 3, 4, 5] rfl)
    · refine lv_iload_n hx hb dX7_readNote_15 rfl (lv_at hl 2 rfl) ?_
      refine lv_bipush (v := nI 9) hx hb dX7_readNote_16 (by decide) ?_
      refine n_icmp_ne (tgt := 108) hx hb (by omega) (by omega) dX7_readNote_18 (by decide) (fun c18 => ?_) (fun c18 => ?_)
      · refine lv_iload_n hx hb dX7_readNote_108 rfl (lv_at hl 2 rfl) ?_
        refine lv_bipush (v := nI 16) hx hb dX7_readNote_109 (by decide) ?_
        refine n_icmp_ne (tgt := 148) hx hb (by omega) (by omega) dX7_readNote_111 (by decide) (fun c111 => ?_) (fun c111 => ?_)
        · refine lv_iload_n hx hb dX7_readNote_148 rfl (lv_at hl 2 rfl) ?_
          refine lv_bipush (v := nI 33) hx hb dX7_readNote_149 (by decide) ?_
          refine n_icmp_ne (tgt := 202) hx hb (by omega) (by omega) dX7_readNote_151 (by decide) (fun c151 => ?_) (fun c151 => ?_)
          · have jn2 : (note = 27 ∨ note = 29) → ∀ (H : Heap) (locs : List Loc), Wd D B s (mw dA h0 ad (nM M (oI nt.2.2.2.2.2.2.1) (oI nt.2.2.2.2.2.2.2.1) (bZ nt.2.2.2.2.2.2.2.2.1) (oL nt.1) (lN nt.2.1) (lN nt.2.2.1) r.1 r.2.1 r.2.2 (fun j => (nt.2.2.2.2.2.2.2.2.2 j).toNat)) ++ F) H locs → ∀ (ls : Array Slot), lv_has ls 8 [(5, .int (nI lb.length)), (0, .ref h0), (1, .int (nI note)), (2, .int (bZ gr)), (3, .int (bZ sd)), (4, .ref a)] → W p l e R s m args below meth c H locs 0 0 Q (F0 m 214 ls []) := by
              intro  hn2 H locs h ls hl
              refine lv_iload hx hb dX7_readNote_214 (lv_at hl 0 rfl) ?_
              refine n_if_ne (tgt := 221) hx hb (by omega) dX7_readNote_216 (by decide) (fun c216 => ?_) (fun c216 => ?_)
              · refine lv_aload_n hx hb dX7_readNote_221 rfl (lv_at hl 1 rfl) ?_
                have jm4 : ∀ (H : Heap) (locs : List Loc), Wd D B s (mw dA h0 ad (nM M (oI nt.2.2.2.2.2.2.1) (oI nt.2.2.2.2.2.2.2.1) (bZ nt.2.2.2.2.2.2.2.2.1) (oL nt.1) (lN nt.2.1) (lN nt.2.2.1) r.1 r.2.1 r.2.2 (fun j => (nt.2.2.2.2.2.2.2.2.2 j).toNat)) ++ F) H locs → ∀ (ls : Array Slot), lv_has ls 8 [(5, .int (nI lb.length)), (0, .ref h0), (1, .int (nI note)), (2, .int (bZ gr)), (3, .int (bZ sd)), (4, .ref a)] → W p l e R s m args below meth c H locs 0 0 Q (F0 m 243 ls [.int (oI (if sd = true ∧ note = 27 then some (gD lb 0) else nt.2.2.2.2.2.2.1)), .ref h0]) := by
                  intro   H locs h ls hl
                  refine m_pi C h 67 (v := oI (if sd = true ∧ note = 27 then some (gD lb 0) else nt.2.2.2.2.2.2.1)) (by decide) rfl rfl rfl q1937 rfl rfl dX7_readNote_243 (fun H locs h => ?_)
                  rw [nM_67] at h
                  have h : Wd D B s (mw dA h0 ad (nM M (oI (if sd = true ∧ note = 27 then some (gD lb 0) else nt.2.2.2.2.2.2.1)) (oI nt.2.2.2.2.2.2.2.1) (bZ nt.2.2.2.2.2.2.2.2.1) (oL nt.1) (lN nt.2.1) (lN nt.2.2.1) r.1 r.2.1 r.2.2 (fun j => (nt.2.2.2.2.2.2.2.2.2 j).toNat)) ++ F) H locs := h
                  refine lv_aload_n hx hb dX7_readNote_246 rfl (lv_at hl 1 rfl) ?_
                  have jm5 : ∀ (H : Heap) (locs : List Loc), Wd D B s (mw dA h0 ad (nM M (oI (if sd = true ∧ note = 27 then some (gD lb 0) else nt.2.2.2.2.2.2.1)) (oI nt.2.2.2.2.2.2.2.1) (bZ nt.2.2.2.2.2.2.2.2.1) (oL nt.1) (lN nt.2.1) (lN nt.2.2.1) r.1 r.2.1 r.2.2 (fun j => (nt.2.2.2.2.2.2.2.2.2 j).toNat)) ++ F) H locs → ∀ (ls : Array Slot), lv_has ls 8 [(5, .int (nI lb.length)), (0, .ref h0), (1, .int (nI note)), (2, .int (bZ gr)), (3, .int (bZ sd)), (4, .ref a)] → W p l e R s m args below meth c H locs 0 0 Q (F0 m 268 ls [.int (oI (if sd = true ∧ note = 29 then some (gD lb 0) else nt.2.2.2.2.2.2.2.1)), .ref h0]) := by
                    intro   H locs h ls hl
                    refine m_pi C h 68 (v := oI (if sd = true ∧ note = 29 then some (gD lb 0) else nt.2.2.2.2.2.2.2.1)) (by decide) rfl rfl rfl q1938 rfl rfl dX7_readNote_268 (fun H locs h => ?_)
                    rw [nM_68] at h
                    have h : Wd D B s (mw dA h0 ad (nM M (oI (if sd = true ∧ note = 27 then some (gD lb 0) else nt.2.2.2.2.2.2.1)) (oI (if sd = true ∧ note = 29 then some (gD lb 0) else nt.2.2.2.2.2.2.2.1)) (bZ nt.2.2.2.2.2.2.2.2.1) (oL nt.1) (lN nt.2.1) (lN nt.2.2.1) r.1 r.2.1 r.2.2 (fun j => (nt.2.2.2.2.2.2.2.2.2 j).toNat)) ++ F) H locs := h
                    refine lv_goto (tgt := 329) hx hb dX7_readNote_271 (by decide) ?_
                    refine lv_iconst (v := nI 1) hx hb dX7_readNote_329 (by decide) ?_
                    subst hQ
                    have h : Wd D B s (mw dA h0 ad (nM M (oI (if sd = true ∧ note = 27 then some (gD lb 0) else nt.2.2.2.2.2.2.1)) (oI (if sd = true ∧ note = 29 then some (gD lb 0) else nt.2.2.2.2.2.2.2.1)) (bZ nt.2.2.2.2.2.2.2.2.1) (oL nt.1) (lN nt.2.1) (lN nt.2.2.1) r.1 r.2.1 r.2.2 (fun j => (nt.2.2.2.2.2.2.2.2.2 j).toNat)) ++ (F ++ [])) H locs := by rw [List.append_nil]; exact h
                    have hfin := congrArg Prod.fst (show noteS nt note gr sd lb = _ by unfold noteS; rw [if_neg (by omega), if_neg (by omega), if_neg (by omega), if_pos hn2, if_pos (by omega)])
                    have hfin2 := congrArg Prod.snd (show noteS nt note gr sd lb = _ by unfold noteS; rw [if_neg (by omega), if_neg (by omega), if_neg (by omega), if_pos hn2, if_pos (by omega)])
                    refine n_top (y := bZ true) rfl ?_
                    exact ret_z C hr hlocks h ((r.1, r.2.1, r.2.2), []) (by rw [hfin]; exact ⟨hR.1.up, hR.2.1.up, hR.2.2.up⟩) (by rw [hfin2]; try rfl) (by rw [hfin]; try rfl) (by omega) (by omega) dX7_readNote_330
                  refine lv_iload_n hx hb dX7_readNote_247 rfl (lv_at hl 4 rfl) ?_
                  refine z_if_eq (tgt := 264) hx hb dX7_readNote_248 (by decide) (fun c248 => ?_) (fun c248 => ?_)
                  · refine lv_aload_n hx hb dX7_readNote_264 rfl (lv_at hl 1 rfl) ?_
                    refine m_gi C h 68 (by decide) rfl rfl q1938 (v := oI nt.2.2.2.2.2.2.2.1) rfl dX7_readNote_265 ?_
                    refine n_top (y := oI (if sd = true ∧ note = 29 then some (gD lb 0) else nt.2.2.2.2.2.2.2.1)) (by rw [if_neg (fun q => by first | exact c254 q.2 | exact absurd (q.1.symm.trans c248) (by decide))]) ?_
                    exact jm5   _ _ h _ (lv_sub hl [0, 1, 2, 3, 4, 5] rfl)
                  · refine lv_iload_n hx hb dX7_readNote_251 rfl (lv_at hl 2 rfl) ?_
                    refine lv_bipush (v := nI 29) hx hb dX7_readNote_252 (by decide) ?_
                    refine n_icmp_ne (tgt := 264) hx hb (by omega) (by omega) dX7_readNote_254 (by decide) (fun c254 => ?_) (fun c254 => ?_)
                    · refine lv_aload_n hx hb dX7_readNote_264 rfl (lv_at hl 1 rfl) ?_
                      refine m_gi C h 68 (by decide) rfl rfl q1938 (v := oI nt.2.2.2.2.2.2.2.1) rfl dX7_readNote_265 ?_
                      refine n_top (y := oI (if sd = true ∧ note = 29 then some (gD lb 0) else nt.2.2.2.2.2.2.2.1)) (by rw [if_neg (fun q => by first | exact c254 q.2 | exact absurd (q.1.symm.trans c248) (by decide))]) ?_
                      exact jm5   _ _ h _ (lv_sub hl [0, 1, 2, 3, 4, 5] rfl)
                    · refine lv_aload hx hb dX7_readNote_257 (lv_at hl 5 rfl) ?_
                      refine lv_iconst (v := nI 0) hx hb dX7_readNote_259 (by decide) ?_
                      refine n_iald C h (v := (gD lb) 0) (List.mem_append_right _ hm) (show 0 < lb.length by omega) (by omega) rfl dX7_readNote_260 ?_
                      refine lv_goto (tgt := 268) hx hb dX7_readNote_261 (by decide) ?_
                      refine n_top (y := oI (if sd = true ∧ note = 29 then some (gD lb 0) else nt.2.2.2.2.2.2.2.1)) (by rw [if_pos ⟨c248, c254⟩]; rfl) ?_
                      exact jm5   _ _ h _ (lv_sub hl [0, 1, 2, 3, 4, 5] rfl)
                refine lv_iload_n hx hb dX7_readNote_222 rfl (lv_at hl 4 rfl) ?_
                refine z_if_eq (tgt := 239) hx hb dX7_readNote_223 (by decide) (fun c223 => ?_) (fun c223 => ?_)
                · refine lv_aload_n hx hb dX7_readNote_239 rfl (lv_at hl 1 rfl) ?_
                  refine m_gi C h 67 (by decide) rfl rfl q1937 (v := oI nt.2.2.2.2.2.2.1) rfl dX7_readNote_240 ?_
                  refine n_top (y := oI (if sd = true ∧ note = 27 then some (gD lb 0) else nt.2.2.2.2.2.2.1)) (by rw [if_neg (fun q => by first | exact c229 q.2 | exact absurd (q.1.symm.trans c223) (by decide))]) ?_
                  exact jm4   _ _ h _ (lv_sub hl [0, 1, 2, 3, 4, 5] rfl)
                · refine lv_iload_n hx hb dX7_readNote_226 rfl (lv_at hl 2 rfl) ?_
                  refine lv_bipush (v := nI 27) hx hb dX7_readNote_227 (by decide) ?_
                  refine n_icmp_ne (tgt := 239) hx hb (by omega) (by omega) dX7_readNote_229 (by decide) (fun c229 => ?_) (fun c229 => ?_)
                  · refine lv_aload_n hx hb dX7_readNote_239 rfl (lv_at hl 1 rfl) ?_
                    refine m_gi C h 67 (by decide) rfl rfl q1937 (v := oI nt.2.2.2.2.2.2.1) rfl dX7_readNote_240 ?_
                    refine n_top (y := oI (if sd = true ∧ note = 27 then some (gD lb 0) else nt.2.2.2.2.2.2.1)) (by rw [if_neg (fun q => by first | exact c229 q.2 | exact absurd (q.1.symm.trans c223) (by decide))]) ?_
                    exact jm4   _ _ h _ (lv_sub hl [0, 1, 2, 3, 4, 5] rfl)
                  · refine lv_aload hx hb dX7_readNote_232 (lv_at hl 5 rfl) ?_
                    refine lv_iconst (v := nI 0) hx hb dX7_readNote_234 (by decide) ?_
                    refine n_iald C h (v := (gD lb) 0) (List.mem_append_right _ hm) (show 0 < lb.length by omega) (by omega) rfl dX7_readNote_235 ?_
                    refine lv_goto (tgt := 243) hx hb dX7_readNote_236 (by decide) ?_
                    refine n_top (y := oI (if sd = true ∧ note = 27 then some (gD lb 0) else nt.2.2.2.2.2.2.1)) (by rw [if_pos ⟨c223, c229⟩]; rfl) ?_
                    exact jm4   _ _ h _ (lv_sub hl [0, 1, 2, 3, 4, 5] rfl)
              · refine lv_iconst (v := nI 0) hx hb dX7_readNote_219 (by decide) ?_
                subst hQ
                have hfin : noteS nt note gr sd lb = (nt, false) := by unfold noteS; rw [if_neg (by omega), if_neg (by omega), if_neg (by omega), if_pos hn2, if_neg (by omega)]
                have h : Wd D B s (mw dA h0 ad (nWm M nt r) ++ (F ++ [])) H locs := by rw [List.append_nil]; exact h
                refine n_top (y := bZ false) rfl ?_
                exact ret_z C hr hlocks h (r, []) (by rw [hfin]; exact hR.up) (by rw [hfin]) (by rw [hfin]) (by omega) (by omega) dX7_readNote_220
            refine lv_iload_n hx hb dX7_readNote_202 rfl (lv_at hl 2 rfl) ?_
            refine lv_bipush (v := nI 27) hx hb dX7_readNote_203 (by decide) ?_
            refine n_icmp_eq (tgt := 214) hx hb (by omega) (by omega) dX7_readNote_205 (by decide) (fun c205 => ?_) (fun c205 => ?_)
            · exact jn2  (by omega) _ _ h _ (lv_sub hl [0, 1, 2, 3, 4, 5] rfl)
            · refine lv_iload_n hx hb dX7_readNote_208 rfl (lv_at hl 2 rfl) ?_
              refine lv_bipush (v := nI 29) hx hb dX7_readNote_209 (by decide) ?_
              refine n_icmp_ne (tgt := 274) hx hb (by omega) (by omega) dX7_readNote_211 (by decide) (fun c211 => ?_) (fun c211 => ?_)
              · refine lv_iload_n hx hb dX7_readNote_274 rfl (lv_at hl 2 rfl) ?_
                refine lv_bipush (v := nI 32) hx hb dX7_readNote_275 (by decide) ?_
                refine n_icmp_ne (tgt := 305) hx hb (by omega) (by omega) dX7_readNote_277 (by decide) (fun c277 => ?_) (fun c277 => ?_)
                · refine lv_aload_n hx hb dX7_readNote_305 rfl (lv_at hl 1 rfl) ?_
                  have jv : ∀ (H : Heap) (locs : List Loc), Wd D B s (mw dA h0 ad (nM M (oI nt.2.2.2.2.2.2.1) (oI nt.2.2.2.2.2.2.2.1) (bZ nt.2.2.2.2.2.2.2.2.1) (oL nt.1) (lN nt.2.1) (lN nt.2.2.1) r.1 r.2.1 r.2.2 (fun j => (nt.2.2.2.2.2.2.2.2.2 j).toNat)) ++ F) H locs → ∀ (ls : Array Slot), lv_has ls 8 [(5, .int (nI lb.length)), (0, .ref h0), (1, .int (nI note)), (2, .int (bZ gr)), (3, .int (bZ sd)), (4, .ref a)] → W p l e R s m args below meth c H locs 0 0 Q (F0 m 326 ls [.int (bZ (nt.2.2.2.2.2.2.2.2.1 || sd && gr)), .ref h0]) := by
                    intro   H locs h ls hl
                    refine m_pi C h 69 (v := bZ (nt.2.2.2.2.2.2.2.2.1 || sd && gr)) (by decide) rfl rfl rfl q1939 (bZ_nar _) (bZ_fit _) dX7_readNote_326 (fun H locs h => ?_)
                    rw [nM_69] at h
                    have h : Wd D B s (mw dA h0 ad (nM M (oI nt.2.2.2.2.2.2.1) (oI nt.2.2.2.2.2.2.2.1) (bZ (nt.2.2.2.2.2.2.2.2.1 || sd && gr)) (oL nt.1) (lN nt.2.1) (lN nt.2.2.1) r.1 r.2.1 r.2.2 (fun j => (nt.2.2.2.2.2.2.2.2.2 j).toNat)) ++ F) H locs := h
                    refine lv_iconst (v := nI 1) hx hb dX7_readNote_329 (by decide) ?_
                    subst hQ
                    have h : Wd D B s (mw dA h0 ad (nM M (oI nt.2.2.2.2.2.2.1) (oI nt.2.2.2.2.2.2.2.1) (bZ (nt.2.2.2.2.2.2.2.2.1 || sd && gr)) (oL nt.1) (lN nt.2.1) (lN nt.2.2.1) r.1 r.2.1 r.2.2 (fun j => (nt.2.2.2.2.2.2.2.2.2 j).toNat)) ++ (F ++ [])) H locs := by rw [List.append_nil]; exact h
                    have hfin := congrArg Prod.fst (show noteS nt note gr sd lb = _ by unfold noteS; rw [if_neg (by omega), if_neg (by omega), if_neg (by omega), if_neg (by omega), if_neg (by omega)])
                    have hfin2 := congrArg Prod.snd (show noteS nt note gr sd lb = _ by unfold noteS; rw [if_neg (by omega), if_neg (by omega), if_neg (by omega), if_neg (by omega), if_neg (by omega)])
                    refine n_top (y := bZ true) rfl ?_
                    exact ret_z C hr hlocks h ((r.1, r.2.1, r.2.2), []) (by rw [hfin]; exact ⟨hR.1.up, hR.2.1.up, hR.2.2.up⟩) (by rw [hfin2]; try rfl) (by rw [hfin]; try rfl) (by omega) (by omega) dX7_readNote_330
                  refine lv_aload_n hx hb dX7_readNote_306 rfl (lv_at hl 1 rfl) ?_
                  refine m_gi C h 69 (by decide) rfl rfl q1939 (v := bZ nt.2.2.2.2.2.2.2.2.1) rfl dX7_readNote_307 ?_
                  refine z_if_ne (tgt := 321) hx hb dX7_readNote_310 (by decide) (fun c310 => ?_) (fun c310 => ?_)
                  · refine lv_iconst (v := nI 1) hx hb dX7_readNote_321 (by decide) ?_
                    refine lv_goto (tgt := 326) hx hb dX7_readNote_322 (by decide) ?_
                    refine n_top (y := bZ (nt.2.2.2.2.2.2.2.2.1 || sd && gr)) (by simp [*]; try rfl) ?_
                    exact jv   _ _ h _ (lv_sub hl [0, 1, 2, 3, 4, 5] rfl)
                  · refine lv_iload_n hx hb dX7_readNote_313 rfl (lv_at hl 4 rfl) ?_
                    refine z_if_eq (tgt := 325) hx hb dX7_readNote_314 (by decide) (fun c314 => ?_) (fun c314 => ?_)
                    · refine lv_iconst (v := nI 0) hx hb dX7_readNote_325 (by decide) ?_
                      refine n_top (y := bZ (nt.2.2.2.2.2.2.2.2.1 || sd && gr)) (by simp [*]; try rfl) ?_
                      exact jv   _ _ h _ (lv_sub hl [0, 1, 2, 3, 4, 5] rfl)
                    · refine lv_iload_n hx hb dX7_readNote_317 rfl (lv_at hl 3 rfl) ?_
                      refine z_if_eq (tgt := 325) hx hb dX7_readNote_318 (by decide) (fun c318 => ?_) (fun c318 => ?_)
                      · refine lv_iconst (v := nI 0) hx hb dX7_readNote_325 (by decide) ?_
                        refine n_top (y := bZ (nt.2.2.2.2.2.2.2.2.1 || sd && gr)) (by simp [*]; try rfl) ?_
                        exact jv   _ _ h _ (lv_sub hl [0, 1, 2, 3, 4, 5] rfl)
                      · refine lv_iconst (v := nI 1) hx hb dX7_readNote_321 (by decide) ?_
                        refine lv_goto (tgt := 326) hx hb dX7_readNote_322 (by decide) ?_
                        refine n_top (y := bZ (nt.2.2.2.2.2.2.2.2.1 || sd && gr)) (by simp [*]; try rfl) ?_
                        exact jv   _ _ h _ (lv_sub hl [0, 1, 2, 3, 4, 5] rfl)
                · refine lv_aload_n hx hb dX7_readNote_280 rfl (lv_at hl 1 rfl) ?_
                  refine lv_aload_n hx hb dX7_readNote_281 rfl (lv_at hl 1 rfl) ?_
                  refine lv_iconst (v := nI 2) hx hb dX7_readNote_282 (by decide) ?_
                  refine lv_iload_n hx hb dX7_readNote_283 rfl (lv_at hl 4 rfl) ?_
                  refine call_V (As := [.int (nI 2), .int (bZ sd)]) (rest := [.ref h0]) (n := 2) C h (c7_takes l D dA B Z hZ h0 ad (nM M (oI nt.2.2.2.2.2.2.1) (oI nt.2.2.2.2.2.2.2.1) (bZ nt.2.2.2.2.2.2.2.2.1) (oL nt.1) (lN nt.2.1) (lN nt.2.2.1) r.1 r.2.1 r.2.2 (fun j => (nt.2.2.2.2.2.2.2.2.2 j).toNat)) F 2 sd (nt.2.2.2.2.2.2.2.2.2) rfl (by decide)) (lw_V q2357 q2359 qs86 q138 q2360) (by decide +kernel) (ci := 5) rfl rfl mw_mem0 (by decide) (by decide) rfl hl rfl (Nat.le_of_ble_eq_true rfl) dX7_readNote_284 (by omega) (fun _ H locs _ h => ?_)
                  rw [nM_70] at h
                  refine z_if_eq (tgt := 295) hx hb dX7_readNote_287 (by decide) (fun c287 => ?_) (fun c287 => ?_)
                  · refine lv_aload_n hx hb dX7_readNote_295 rfl (lv_at hl 1 rfl) ?_
                    refine m_gr C h 66 (by decide) rfl rfl q1936 (v := r.2.2) rfl dX7_readNote_296 ?_
                    refine m_pr C h 66 (v := r.2.2) (by decide) rfl rfl rfl q1936 (rf_nar _ _) (rf_fit _ _) dX7_readNote_299 (fun H locs h => ?_)
                    rw [nM_66] at h
                    have h : Wd D B s (mw dA h0 ad (nM M (oI nt.2.2.2.2.2.2.1) (oI nt.2.2.2.2.2.2.2.1) (bZ nt.2.2.2.2.2.2.2.2.1) (oL nt.1) (lN nt.2.1) (lN nt.2.2.1) r.1 r.2.1 r.2.2 (fun j => (upN nt.2.2.2.2.2.2.2.2.2 2 (nt.2.2.2.2.2.2.2.2.2 2 || sd) j).toNat)) ++ F) H locs := h
                    refine lv_goto (tgt := 329) hx hb dX7_readNote_302 (by decide) ?_
                    refine lv_iconst (v := nI 1) hx hb dX7_readNote_329 (by decide) ?_
                    subst hQ
                    have h : Wd D B s (mw dA h0 ad (nM M (oI nt.2.2.2.2.2.2.1) (oI nt.2.2.2.2.2.2.2.1) (bZ nt.2.2.2.2.2.2.2.2.1) (oL nt.1) (lN nt.2.1) (lN nt.2.2.1) r.1 r.2.1 r.2.2 (fun j => (upN nt.2.2.2.2.2.2.2.2.2 2 (nt.2.2.2.2.2.2.2.2.2 2 || sd) j).toNat)) ++ (F ++ [])) H locs := by rw [List.append_nil]; exact h
                    have hfin := congrArg Prod.fst (show noteS nt note gr sd lb = _ by unfold noteS; rw [if_neg (by omega), if_neg (by omega), if_neg (by omega), if_neg (by omega), if_pos (by omega), if_neg (by rw [c287]; decide)])
                    have hfin2 := congrArg Prod.snd (show noteS nt note gr sd lb = _ by unfold noteS; rw [if_neg (by omega), if_neg (by omega), if_neg (by omega), if_neg (by omega), if_pos (by omega), if_neg (by rw [c287]; decide)])
                    refine n_top (y := bZ true) rfl ?_
                    exact ret_z C hr hlocks h ((r.1, r.2.1, r.2.2), []) (by rw [hfin]; exact ⟨hR.1.up, hR.2.1.up, hR.2.2.up⟩) (by rw [hfin2]; try rfl) (by rw [hfin]; try rfl) (by omega) (by omega) dX7_readNote_330
                  · refine lv_aload hx hb dX7_readNote_290 (lv_at hl 5 rfl) ?_
                    refine lv_goto (tgt := 299) hx hb dX7_readNote_292 (by decide) ?_
                    refine m_pr C h 66 (v := some a) (by decide) rfl rfl rfl q1936 rfl rfl dX7_readNote_299 (fun H locs h => ?_)
                    rw [nM_66] at h
                    have h : Wd D B s (mw dA h0 ad (nM M (oI nt.2.2.2.2.2.2.1) (oI nt.2.2.2.2.2.2.2.1) (bZ nt.2.2.2.2.2.2.2.2.1) (oL nt.1) (lN nt.2.1) (lN nt.2.2.1) r.1 r.2.1 (some a) (fun j => (upN nt.2.2.2.2.2.2.2.2.2 2 (nt.2.2.2.2.2.2.2.2.2 2 || sd) j).toNat)) ++ F) H locs := h
                    refine lv_goto (tgt := 329) hx hb dX7_readNote_302 (by decide) ?_
                    refine lv_iconst (v := nI 1) hx hb dX7_readNote_329 (by decide) ?_
                    subst hQ
                    have h : Wd D B s (mw dA h0 ad (nM M (oI nt.2.2.2.2.2.2.1) (oI nt.2.2.2.2.2.2.2.1) (bZ nt.2.2.2.2.2.2.2.2.1) (oL nt.1) (lN nt.2.1) (lN nt.2.2.1) r.1 r.2.1 (some a) (fun j => (upN nt.2.2.2.2.2.2.2.2.2 2 (nt.2.2.2.2.2.2.2.2.2 2 || sd) j).toNat)) ++ (F ++ [])) H locs := by rw [List.append_nil]; exact h
                    have hfin := congrArg Prod.fst (show noteS nt note gr sd lb = _ by unfold noteS; rw [if_neg (by omega), if_neg (by omega), if_neg (by omega), if_neg (by omega), if_pos (by omega), if_pos c287])
                    have hfin2 := congrArg Prod.snd (show noteS nt note gr sd lb = _ by unfold noteS; rw [if_neg (by omega), if_neg (by omega), if_neg (by omega), if_neg (by omega), if_pos (by omega), if_pos c287])
                    refine n_top (y := bZ true) rfl ?_
                    exact ret_z C hr hlocks h ((r.1, r.2.1, some a), []) (by rw [hfin]; exact ⟨hR.1.up, hR.2.1.up, ⟨a, rfl, List.mem_append_left _ hm⟩⟩) (by rw [hfin2]; try rfl) (by rw [hfin]; try rfl) (by omega) (by omega) dX7_readNote_330
              · exact jn2  (by omega) _ _ h _ (lv_sub hl [0, 1, 2, 3, 4, 5] rfl)
          · refine lv_iload hx hb dX7_readNote_154 (lv_at hl 0 rfl) ?_
            refine lv_bipush (v := nI 21) hx hb dX7_readNote_156 (by decide) ?_
            refine n_icmp_ne (tgt := 169) hx hb (by omega) (by omega) dX7_readNote_158 (by decide) (fun c158 => ?_) (fun c158 => ?_)
            · refine lv_iconst (v := nI 0) hx hb dX7_readNote_169 (by decide) ?_
              subst hQ
              have hfin : noteS nt note gr sd lb = (nt, false) := by unfold noteS; rw [if_neg (by omega), if_neg (by omega), if_pos (by omega), if_neg (by omega)]
              have h : Wd D B s (mw dA h0 ad (nWm M nt r) ++ (F ++ [])) s.heap [] := by rw [List.append_nil]; exact h
              refine n_top (y := bZ false) rfl ?_
              exact ret_z C hr hlocks h (r, []) (by rw [hfin]; exact hR.up) (by rw [hfin]) (by rw [hfin]) (by omega) (by omega) dX7_readNote_170
            · refine lv_aload hx hb dX7_readNote_161 (lv_at hl 5 rfl) ?_
              refine lv_iconst (v := nI 0) hx hb dX7_readNote_163 (by decide) ?_
              refine n_iald C h (v := (gD lb) 0) (List.mem_append_right _ hm) (show 0 < lb.length by omega) (by omega) rfl dX7_readNote_164 ?_
              refine lv_iconst (v := nI 4) hx hb dX7_readNote_165 (by decide) ?_
              refine n_icmp_eq (tgt := 171) hx hb (by omega) (by omega) dX7_readNote_166 (by decide) (fun c166 => ?_) (fun c166 => ?_)
              · refine lv_aload_n hx hb dX7_readNote_171 rfl (lv_at hl 1 rfl) ?_
                refine lv_aload_n hx hb dX7_readNote_172 rfl (lv_at hl 1 rfl) ?_
                refine lv_iconst (v := nI 1) hx hb dX7_readNote_173 (by decide) ?_
                refine lv_iload_n hx hb dX7_readNote_174 rfl (lv_at hl 4 rfl) ?_
                refine call_V (As := [.int (nI 1), .int (bZ sd)]) (rest := [.ref h0]) (n := 2) C h (c7_takes l D dA B Z hZ h0 ad (nM M (oI nt.2.2.2.2.2.2.1) (oI nt.2.2.2.2.2.2.2.1) (bZ nt.2.2.2.2.2.2.2.2.1) (oL nt.1) (lN nt.2.1) (lN nt.2.2.1) r.1 r.2.1 r.2.2 (fun j => (nt.2.2.2.2.2.2.2.2.2 j).toNat)) F 1 sd (nt.2.2.2.2.2.2.2.2.2) rfl (by decide)) (lw_V q2357 q2359 qs86 q138 q2360) (by decide +kernel) (ci := 5) rfl rfl mw_mem0 (by decide) (by decide) rfl hl rfl (Nat.le_of_ble_eq_true rfl) dX7_readNote_175 (by omega) (fun _ H locs _ h => ?_)
                rw [nM_70] at h
                refine z_if_eq (tgt := 192) hx hb dX7_readNote_178 (by decide) (fun c178 => ?_) (fun c178 => ?_)
                · refine lv_aload_n hx hb dX7_readNote_192 rfl (lv_at hl 1 rfl) ?_
                  refine m_gr C h 65 (by decide) rfl rfl q1935 (v := r.2.1) rfl dX7_readNote_193 ?_
                  refine m_pr C h 65 (v := r.2.1) (by decide) rfl rfl rfl q1935 (rf_nar _ _) (rf_fit _ _) dX7_readNote_196 (fun H locs h => ?_)
                  rw [nM_65] at h
                  have h : Wd D B s (mw dA h0 ad (nM M (oI nt.2.2.2.2.2.2.1) (oI nt.2.2.2.2.2.2.2.1) (bZ nt.2.2.2.2.2.2.2.2.1) (oL nt.1) (lN nt.2.1) (lN nt.2.2.1) r.1 r.2.1 r.2.2 (fun j => (upN nt.2.2.2.2.2.2.2.2.2 1 (nt.2.2.2.2.2.2.2.2.2 1 || sd) j).toNat)) ++ F) H locs := h
                  refine lv_goto (tgt := 329) hx hb dX7_readNote_199 (by decide) ?_
                  refine lv_iconst (v := nI 1) hx hb dX7_readNote_329 (by decide) ?_
                  subst hQ
                  have h : Wd D B s (mw dA h0 ad (nM M (oI nt.2.2.2.2.2.2.1) (oI nt.2.2.2.2.2.2.2.1) (bZ nt.2.2.2.2.2.2.2.2.1) (oL nt.1) (lN nt.2.1) (lN nt.2.2.1) r.1 r.2.1 r.2.2 (fun j => (upN nt.2.2.2.2.2.2.2.2.2 1 (nt.2.2.2.2.2.2.2.2.2 1 || sd) j).toNat)) ++ (F ++ [])) H locs := by rw [List.append_nil]; exact h
                  have hfin := congrArg Prod.fst (show noteS nt note gr sd lb = _ by unfold noteS; rw [if_neg (by omega), if_neg (by omega), if_pos (by omega), if_pos (by omega), if_neg (by rw [c178]; decide)])
                  have hfin2 := congrArg Prod.snd (show noteS nt note gr sd lb = _ by unfold noteS; rw [if_neg (by omega), if_neg (by omega), if_pos (by omega), if_pos (by omega), if_neg (by rw [c178]; decide)])
                  refine n_top (y := bZ true) rfl ?_
                  exact ret_z C hr hlocks h ((r.1, r.2.1, r.2.2), []) (by rw [hfin]; exact ⟨hR.1.up, hR.2.1.up, hR.2.2.up⟩) (by rw [hfin2]; try rfl) (by rw [hfin]; try rfl) (by omega) (by omega) dX7_readNote_330
                · refine lv_aload hx hb dX7_readNote_181 (lv_at hl 5 rfl) ?_
                  refine lv_iconst (v := nI 1) hx hb dX7_readNote_183 (by decide) ?_
                  refine lv_bipush (v := nI 20) hx hb dX7_readNote_184 (by decide) ?_
                  refine call_S (As := [.ref a, .int (nI 1), .int (nI 20)]) (rest := [.ref h0]) (n := 3) C h (c7_part l D dA B Z hZ _ a lb.length (gD lb) 1 20 (List.mem_append_right _ hm) (by omega) (by omega)) (lw_S q2208 q2209 q138 q2210) (by decide +kernel) (by decide) (by decide) rfl hl rfl (Nat.le_of_ble_eq_true rfl) dX7_readNote_186 (by omega) (fun q9 H locs _ h => ?_)
                  rw [List.append_assoc, ← sliceL_sl (by omega)] at h
                  refine lv_goto (tgt := 196) hx hb dX7_readNote_189 (by decide) ?_
                  refine m_pr C h 65 (v := some q9) (by decide) rfl rfl rfl q1935 rfl rfl dX7_readNote_196 (fun H locs h => ?_)
                  rw [nM_65] at h
                  have h : Wd D B s (mw dA h0 ad (nM M (oI nt.2.2.2.2.2.2.1) (oI nt.2.2.2.2.2.2.2.1) (bZ nt.2.2.2.2.2.2.2.2.1) (oL nt.1) (lN nt.2.1) (lN nt.2.2.1) r.1 (some q9) r.2.2 (fun j => (upN nt.2.2.2.2.2.2.2.2.2 1 (nt.2.2.2.2.2.2.2.2.2 1 || sd) j).toNat)) ++ (F ++ [(q9, ial dA (sliceL lb 1 20))])) H locs := h
                  refine lv_goto (tgt := 329) hx hb dX7_readNote_199 (by decide) ?_
                  refine lv_iconst (v := nI 1) hx hb dX7_readNote_329 (by decide) ?_
                  subst hQ
                  have hfin := congrArg Prod.fst (show noteS nt note gr sd lb = _ by unfold noteS; rw [if_neg (by omega), if_neg (by omega), if_pos (by omega), if_pos (by omega), if_pos c178])
                  have hfin2 := congrArg Prod.snd (show noteS nt note gr sd lb = _ by unfold noteS; rw [if_neg (by omega), if_neg (by omega), if_pos (by omega), if_pos (by omega), if_pos c178])
                  refine n_top (y := bZ true) rfl ?_
                  exact ret_z C hr hlocks h ((r.1, some q9, r.2.2), [(q9, ial dA (sliceL lb 1 20))]) (by rw [hfin]; exact ⟨hR.1.up, ⟨q9, rfl, List.mem_append_right _ List.mem_cons_self⟩, hR.2.2.up⟩) (by rw [hfin2]; try rfl) (by rw [hfin]; try rfl) (by omega) (by omega) dX7_readNote_330
              · refine lv_iconst (v := nI 0) hx hb dX7_readNote_169 (by decide) ?_
                subst hQ
                have hfin : noteS nt note gr sd lb = (nt, false) := by unfold noteS; rw [if_neg (by omega), if_neg (by omega), if_pos (by omega), if_neg (by omega)]
                have h : Wd D B s (mw dA h0 ad (nWm M nt r) ++ (F ++ [])) s.heap [] := by rw [List.append_nil]; exact h
                refine n_top (y := bZ false) rfl ?_
                exact ret_z C hr hlocks h (r, []) (by rw [hfin]; exact hR.up) (by rw [hfin]) (by rw [hfin]) (by omega) (by omega) dX7_readNote_170
        · refine lv_iload hx hb dX7_readNote_114 (lv_at hl 0 rfl) ?_
          refine lv_bipush (v := nI 8) hx hb dX7_readNote_116 (by decide) ?_
          refine n_icmp_eq (tgt := 123) hx hb (by omega) (by omega) dX7_readNote_118 (by decide) (fun c118 => ?_) (fun c118 => ?_)
          · refine lv_aload_n hx hb dX7_readNote_123 rfl (lv_at hl 1 rfl) ?_
            refine lv_aload_n hx hb dX7_readNote_124 rfl (lv_at hl 1 rfl) ?_
            refine lv_iconst (v := nI 0) hx hb dX7_readNote_125 (by decide) ?_
            refine lv_iload_n hx hb dX7_readNote_126 rfl (lv_at hl 4 rfl) ?_
            refine call_V (As := [.int (nI 0), .int (bZ sd)]) (rest := [.ref h0]) (n := 2) C h (c7_takes l D dA B Z hZ h0 ad (nM M (oI nt.2.2.2.2.2.2.1) (oI nt.2.2.2.2.2.2.2.1) (bZ nt.2.2.2.2.2.2.2.2.1) (oL nt.1) (lN nt.2.1) (lN nt.2.2.1) r.1 r.2.1 r.2.2 (fun j => (nt.2.2.2.2.2.2.2.2.2 j).toNat)) F 0 sd (nt.2.2.2.2.2.2.2.2.2) rfl (by decide)) (lw_V q2357 q2359 qs86 q138 q2360) (by decide +kernel) (ci := 5) rfl rfl mw_mem0 (by decide) (by decide) rfl hl rfl (Nat.le_of_ble_eq_true rfl) dX7_readNote_127 (by omega) (fun _ H locs _ h => ?_)
            rw [nM_70] at h
            refine z_if_eq (tgt := 138) hx hb dX7_readNote_130 (by decide) (fun c130 => ?_) (fun c130 => ?_)
            · refine lv_aload_n hx hb dX7_readNote_138 rfl (lv_at hl 1 rfl) ?_
              refine m_gr C h 64 (by decide) rfl rfl q1934 (v := r.1) rfl dX7_readNote_139 ?_
              refine m_pr C h 64 (v := r.1) (by decide) rfl rfl rfl q1934 (rf_nar _ _) (rf_fit _ _) dX7_readNote_142 (fun H locs h => ?_)
              rw [nM_64] at h
              have h : Wd D B s (mw dA h0 ad (nM M (oI nt.2.2.2.2.2.2.1) (oI nt.2.2.2.2.2.2.2.1) (bZ nt.2.2.2.2.2.2.2.2.1) (oL nt.1) (lN nt.2.1) (lN nt.2.2.1) r.1 r.2.1 r.2.2 (fun j => (upN nt.2.2.2.2.2.2.2.2.2 0 (nt.2.2.2.2.2.2.2.2.2 0 || sd) j).toNat)) ++ F) H locs := h
              refine lv_goto (tgt := 329) hx hb dX7_readNote_145 (by decide) ?_
              refine lv_iconst (v := nI 1) hx hb dX7_readNote_329 (by decide) ?_
              subst hQ
              have h : Wd D B s (mw dA h0 ad (nM M (oI nt.2.2.2.2.2.2.1) (oI nt.2.2.2.2.2.2.2.1) (bZ nt.2.2.2.2.2.2.2.2.1) (oL nt.1) (lN nt.2.1) (lN nt.2.2.1) r.1 r.2.1 r.2.2 (fun j => (upN nt.2.2.2.2.2.2.2.2.2 0 (nt.2.2.2.2.2.2.2.2.2 0 || sd) j).toNat)) ++ (F ++ [])) H locs := by rw [List.append_nil]; exact h
              have hfin := congrArg Prod.fst (show noteS nt note gr sd lb = _ by unfold noteS; rw [if_neg (by omega), if_pos (by omega), if_pos (by omega), if_neg (by rw [c130]; decide)])
              have hfin2 := congrArg Prod.snd (show noteS nt note gr sd lb = _ by unfold noteS; rw [if_neg (by omega), if_pos (by omega), if_pos (by omega), if_neg (by rw [c130]; decide)])
              refine n_top (y := bZ true) rfl ?_
              exact ret_z C hr hlocks h ((r.1, r.2.1, r.2.2), []) (by rw [hfin]; exact ⟨hR.1.up, hR.2.1.up, hR.2.2.up⟩) (by rw [hfin2]; try rfl) (by rw [hfin]; try rfl) (by omega) (by omega) dX7_readNote_330
            · refine lv_aload hx hb dX7_readNote_133 (lv_at hl 5 rfl) ?_
              refine lv_goto (tgt := 142) hx hb dX7_readNote_135 (by decide) ?_
              refine m_pr C h 64 (v := some a) (by decide) rfl rfl rfl q1934 rfl rfl dX7_readNote_142 (fun H locs h => ?_)
              rw [nM_64] at h
              have h : Wd D B s (mw dA h0 ad (nM M (oI nt.2.2.2.2.2.2.1) (oI nt.2.2.2.2.2.2.2.1) (bZ nt.2.2.2.2.2.2.2.2.1) (oL nt.1) (lN nt.2.1) (lN nt.2.2.1) (some a) r.2.1 r.2.2 (fun j => (upN nt.2.2.2.2.2.2.2.2.2 0 (nt.2.2.2.2.2.2.2.2.2 0 || sd) j).toNat)) ++ F) H locs := h
              refine lv_goto (tgt := 329) hx hb dX7_readNote_145 (by decide) ?_
              refine lv_iconst (v := nI 1) hx hb dX7_readNote_329 (by decide) ?_
              subst hQ
              have h : Wd D B s (mw dA h0 ad (nM M (oI nt.2.2.2.2.2.2.1) (oI nt.2.2.2.2.2.2.2.1) (bZ nt.2.2.2.2.2.2.2.2.1) (oL nt.1) (lN nt.2.1) (lN nt.2.2.1) (some a) r.2.1 r.2.2 (fun j => (upN nt.2.2.2.2.2.2.2.2.2 0 (nt.2.2.2.2.2.2.2.2.2 0 || sd) j).toNat)) ++ (F ++ [])) H locs := by rw [List.append_nil]; exact h
              have hfin := congrArg Prod.fst (show noteS nt note gr sd lb = _ by unfold noteS; rw [if_neg (by omega), if_pos (by omega), if_pos (by omega), if_pos c130])
              have hfin2 := congrArg Prod.snd (show noteS nt note gr sd lb = _ by unfold noteS; rw [if_neg (by omega), if_pos (by omega), if_pos (by omega), if_pos c130])
              refine n_top (y := bZ true) rfl ?_
              exact ret_z C hr hlocks h ((some a, r.2.1, r.2.2), []) (by rw [hfin]; exact ⟨⟨a, rfl, List.mem_append_left _ hm⟩, hR.2.1.up, hR.2.2.up⟩) (by rw [hfin2]; try rfl) (by rw [hfin]; try rfl) (by omega) (by omega) dX7_readNote_330
          · refine lv_iconst (v := nI 0) hx hb dX7_readNote_121 (by decide) ?_
            subst hQ
            have hfin : noteS nt note gr sd lb = (nt, false) := by unfold noteS; rw [if_neg (by omega), if_pos (by omega), if_neg (by omega)]
            have h : Wd D B s (mw dA h0 ad (nWm M nt r) ++ (F ++ [])) s.heap [] := by rw [List.append_nil]; exact h
            refine n_top (y := bZ false) rfl ?_
            exact ret_z C hr hlocks h (r, []) (by rw [hfin]; exact hR.up) (by rw [hfin]) (by rw [hfin]) (by omega) (by omega) dX7_readNote_122
      · exact jn1  (by omega) _ _ h _ (lv_sub hl [0, 1, 2, 3, 4, 5] rfl)
