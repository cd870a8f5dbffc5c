set_option maxRecDepth 100000
/-! SignetRingModel: its whole state as one value, its world, its rows -/
abbrev MS : Type := (Nat → Int32) × (Nat → Int64) × (Nat → Option Nat) × (Nat → Nat → Nat) × (Nat → Nat → Int32) × (Nat → Nat → Option Nat)
def mI (M : MS) (k : Nat) : Int32 := M.1 k
def mL (M : MS) (k : Nat) : Int64 := M.2.1 k
def mR (M : MS) (k : Nat) : Option Nat := M.2.2.1 k
def mG (M : MS) (k : Nat) : Nat → Nat := M.2.2.2.1 k
def mW (M : MS) (k : Nat) : Nat → Int32 := M.2.2.2.2.1 k
def mA (M : MS) (k : Nat) : Nat → Option Nat := M.2.2.2.2.2 k
def sI (M : MS) (k : Nat) (v : Int32) : MS := (upN M.1 k v, M.2)
def sL (M : MS) (k : Nat) (v : Int64) : MS := (M.1, upN M.2.1 k v, M.2.2)
def sR (M : MS) (k : Nat) (v : Option Nat) : MS := (M.1, M.2.1, upN M.2.2.1 k v, M.2.2.2)
def sG (M : MS) (k : Nat) (v : Nat → Nat) : MS := (M.1, M.2.1, M.2.2.1, upN M.2.2.2.1 k v, M.2.2.2.2)
def sW (M : MS) (k : Nat) (v : Nat → Int32) : MS := (M.1, M.2.1, M.2.2.1, M.2.2.2.1, upN M.2.2.2.2.1 k v, M.2.2.2.2.2)
def sA (M : MS) (k : Nat) (v : Nat → Option Nat) : MS := (M.1, M.2.1, M.2.2.1, M.2.2.2.1, M.2.2.2.2.1, upN M.2.2.2.2.2 k v)
/-- a field's kind: 0 int or truth, 1 long, 2 an array for good, 3 a reference -/
def mkk (k : Nat) : Nat := [0,0,2,0,2,0,2,2,2,2,0,2,0,3,3,3,0,3,3,3,0,2,2,2,2,2,0,2,2,1,2,2,2,0,3,0,0,0,0,3,0,0,0,0,3,0,2,0,0,1,3,3,3,3,0,0,0,0,0,0,3,1,1,1,3,3,3,0,0,0,2,3,3,0].getD k 0
def mfv (ad : Nat → Nat) (M : MS) (k : Nat) : Value := match mkk k with
  | 0 => .int (mI M k)
  | 1 => .long (mL M k)
  | 2 => .ref (ad k)
  | _ => va_rf (mR M k)
def flv (n : Nat) (f : Nat → Value) : List Value := (List.range n).map f
theorem flv_get {n k : Nat} {f : Nat → Value} (h : k < n) : (flv n f)[k]? = some (f k) := by
  unfold flv
  rw [List.getElem?_map, List.getElem?_range h]; rfl
theorem flv_len {n : Nat} {f : Nat → Value} : (flv n f).length = n := by simp [flv]
theorem flv_set {n k : Nat} {f : Nat → Value} {v : Value} : (flv n f).set k v = flv n (upN f k v) := by
  apply List.ext_getElem?
  intro i
  rw [List.getElem?_set]
  by_cases hk : k = i
  · subst hk
    rw [if_pos rfl]
    by_cases hl : k < n
    · rw [if_pos (by rw [flv_len]; exact hl), flv_get hl, upN_s]
    · rw [if_neg (by rw [flv_len]; exact hl)]
      symm
      rw [List.getElem?_eq_none_iff, flv_len]
      omega
  · rw [if_neg hk]
    by_cases hl : i < n
    · rw [flv_get hl, flv_get hl, upN_n (Ne.symm hk)]
    · rw [List.getElem?_eq_none_iff.mpr (by rw [flv_len]; omega), List.getElem?_eq_none_iff.mpr (by rw [flv_len]; omega)]
theorem flv_ext {n : Nat} {f g : Nat → Value} (h : ∀ k, k < n → f k = g k) : flv n f = flv n g := by
  unfold flv
  exact List.map_congr_left fun k hk => h k (List.mem_range.mp hk)
def iar (dA : Nat → ClassId) (n : Nat) (g : Nat → Nat) : va_E := .inl (dA 0, n, .inl (fun j => nI (g j)))
def war (dA : Nat → ClassId) (n : Nat) (g : Nat → Int32) : va_E := .inl (dA 0, n, .inl g)
def lar (dA : Nat → ClassId) (n : Nat) (g : Nat → Nat) : va_E := .inl (dA 2, n, .inr (.inl (fun j => lN (g j))))
def zar (dA : Nat → ClassId) (n : Nat) (g : Nat → Nat) : va_E := .inl (dA 3, n, .inl (fun j => nI (g j)))
def aar (dA : Nat → ClassId) (n : Nat) (g : Nat → Option Nat) : va_E := .inl (dA 6, n, .inr (.inr (.inr (.inr g))))
abbrev mkG : List Nat := [2, 4, 6, 7, 8, 9, 11, 21, 22, 46, 13, 17]
abbrev mkW : List Nat := [23, 24, 25]
abbrev mkL : List Nat := [27, 28, 30, 31, 32]
abbrev mkA : List Nat := [14, 15, 18, 19]
def mlen : Nat → Nat
  | 2 => 4096 | 4 => 4096 | 6 => 4096 | 7 => 4096 | 8 => 4097 | 9 => 8000 | 11 => 60000 | 21 => 30000 | 22 => 32 | 46 => 5000 | 13 => 4700 | 17 => 4700
  | 23 => 80 | 24 => 8 | 25 => 8 | 27 => 40 | 28 => 42 | 30 => 40 | 31 => 40 | 32 => 40 | 70 => 3 | 14 => 4700 | 15 => 4700 | 18 => 4700 | 19 => 4700 | _ => 0
def mw (dA : Nat → ClassId) (h0 : Nat) (ad : Nat → Nat) (M : MS) : va_W :=
  [(h0, .inr (5, flv 74 (mfv ad M))),
   (ad 2, iar dA 4096 (mG M 2)), (ad 4, iar dA 4096 (mG M 4)), (ad 6, iar dA 4096 (mG M 6)), (ad 7, iar dA 4096 (mG M 7)), (ad 8, iar dA 4097 (mG M 8)), (ad 9, iar dA 8000 (mG M 9)), (ad 11, iar dA 60000 (mG M 11)), (ad 21, iar dA 30000 (mG M 21)), (ad 22, iar dA 32 (mG M 22)), (ad 46, iar dA 5000 (mG M 46)), (ad 13, iar dA 4700 (mG M 13)), (ad 17, iar dA 4700 (mG M 17)),
   (ad 23, war dA 80 (mW M 23)), (ad 24, war dA 8 (mW M 24)), (ad 25, war dA 8 (mW M 25)),
   (ad 27, lar dA 40 (mG M 27)), (ad 28, lar dA 42 (mG M 28)), (ad 30, lar dA 40 (mG M 30)), (ad 31, lar dA 40 (mG M 31)), (ad 32, lar dA 40 (mG M 32)),
   (ad 70, zar dA 3 (mG M 70)),
   (ad 14, aar dA 4700 (mA M 14)), (ad 15, aar dA 4700 (mA M 15)), (ad 18, aar dA 4700 (mA M 18)), (ad 19, aar dA 4700 (mA M 19))]
theorem mw_len {dA : Nat → ClassId} {h0 : Nat} {ad : Nat → Nat} {M : MS} : (mw dA h0 ad M).length = 26 := rfl
theorem mw_G {k : Nat} (hk : k ∈ mkG) : ∃ q0 : Nat, ∀ (dA : Nat → ClassId) (h0 : Nat) (ad : Nat → Nat) (M : MS) (F : va_W), (mw dA h0 ad M ++ F)[q0]? = some (ad k, iar dA (mlen k) (mG M k)) ∧ ∀ g, (mw dA h0 ad M ++ F).set q0 (ad k, iar dA (mlen k) g) = mw dA h0 ad (sG M k g) ++ F := by
  simp only [mkG, List.mem_cons, List.not_mem_nil, or_false] at hk
  rcases hk with rfl | rfl | rfl | rfl | rfl | rfl | rfl | rfl | rfl | rfl | rfl | rfl
  · exact ⟨1, fun _ _ _ _ _ => ⟨rfl, fun _ => rfl⟩⟩
  · exact ⟨2, fun _ _ _ _ _ => ⟨rfl, fun _ => rfl⟩⟩
  · exact ⟨3, fun _ _ _ _ _ => ⟨rfl, fun _ => rfl⟩⟩
  · exact ⟨4, fun _ _ _ _ _ => ⟨rfl, fun _ => rfl⟩⟩
  · exact ⟨5, fun _ _ _ _ _ => ⟨rfl, fun _ => rfl⟩⟩
  · exact ⟨6, fun _ _ _ _ _ => ⟨rfl, fun _ => rfl⟩⟩
  · exact ⟨7, fun _ _ _ _ _ => ⟨rfl, fun _ => rfl⟩⟩
  · exact ⟨8, fun _ _ _ _ _ => ⟨rfl, fun _ => rfl⟩⟩
  · exact ⟨9, fun _ _ _ _ _ => ⟨rfl, fun _ => rfl⟩⟩
  · exact ⟨10, fun _ _ _ _ _ => ⟨rfl, fun _ => rfl⟩⟩
  · exact ⟨11, fun _ _ _ _ _ => ⟨rfl, fun _ => rfl⟩⟩
  · exact ⟨12, fun _ _ _ _ _ => ⟨rfl, fun _ => rfl⟩⟩
theorem mw_W {k : Nat} (hk : k ∈ mkW) : ∃ q0 : Nat, ∀ (dA : Nat → ClassId) (h0 : Nat) (ad : Nat → Nat) (M : MS) (F : va_W), (mw dA h0 ad M ++ F)[q0]? = some (ad k, war dA (mlen k) (mW M k)) ∧ ∀ g, (mw dA h0 ad M ++ F).set q0 (ad k, war dA (mlen k) g) = mw dA h0 ad (sW M k g) ++ F := by
  simp only [mkW, List.mem_cons, List.not_mem_nil, or_false] at hk
  rcases hk with rfl | rfl | rfl
  · exact ⟨13, fun _ _ _ _ _ => ⟨rfl, fun _ => rfl⟩⟩
  · exact ⟨14, fun _ _ _ _ _ => ⟨rfl, fun _ => rfl⟩⟩
  · exact ⟨15, fun _ _ _ _ _ => ⟨rfl, fun _ => rfl⟩⟩
theorem mw_L {k : Nat} (hk : k ∈ mkL) : ∃ q0 : Nat, ∀ (dA : Nat → ClassId) (h0 : Nat) (ad : Nat → Nat) (M : MS) (F : va_W), (mw dA h0 ad M ++ F)[q0]? = some (ad k, lar dA (mlen k) (mG M k)) ∧ ∀ g, (mw dA h0 ad M ++ F).set q0 (ad k, lar dA (mlen k) g) = mw dA h0 ad (sG M k g) ++ F := by
  simp only [mkL, List.mem_cons, List.not_mem_nil, or_false] at hk
  rcases hk with rfl | rfl | rfl | rfl | rfl
  · exact ⟨16, fun _ _ _ _ _ => ⟨rfl, fun _ => rfl⟩⟩
  · exact ⟨17, fun _ _ _ _ _ => ⟨rfl, fun _ => rfl⟩⟩
  · exact ⟨18, fun _ _ _ _ _ => ⟨rfl, fun _ => rfl⟩⟩
  · exact ⟨19, fun _ _ _ _ _ => ⟨rfl, fun _ => rfl⟩⟩
  · exact ⟨20, fun _ _ _ _ _ => ⟨rfl, fun _ => rfl⟩⟩
theorem mw_A {k : Nat} (hk : k ∈ mkA) : ∃ q0 : Nat, ∀ (dA : Nat → ClassId) (h0 : Nat) (ad : Nat → Nat) (M : MS) (F : va_W), (mw dA h0 ad M ++ F)[q0]? = some (ad k, aar dA (mlen k) (mA M k)) ∧ ∀ g, (mw dA h0 ad M ++ F).set q0 (ad k, aar dA (mlen k) g) = mw dA h0 ad (sA M k g) ++ F := by
  simp only [mkA, List.mem_cons, List.not_mem_nil, or_false] at hk
  rcases hk with rfl | rfl | rfl | rfl
  · exact ⟨22, fun _ _ _ _ _ => ⟨rfl, fun _ => rfl⟩⟩
  · exact ⟨23, fun _ _ _ _ _ => ⟨rfl, fun _ => rfl⟩⟩
  · exact ⟨24, fun _ _ _ _ _ => ⟨rfl, fun _ => rfl⟩⟩
  · exact ⟨25, fun _ _ _ _ _ => ⟨rfl, fun _ => rfl⟩⟩
theorem mlen_lt (k : Nat) : mlen k < 2147483648 := by
  unfold mlen
  split <;> decide
theorem mw_memG {k : Nat} (hk : k ∈ mkG) {dA : Nat → ClassId} {h0 : Nat} {ad : Nat → Nat} {M : MS} {F : va_W} : (ad k, iar dA (mlen k) (mG M k)) ∈ mw dA h0 ad M ++ F := by
  obtain ⟨q0, hq⟩ := mw_G hk
  exact List.mem_of_getElem? (hq dA h0 ad M F).1
theorem mw_mem0 {dA : Nat → ClassId} {h0 : Nat} {ad : Nat → Nat} {M : MS} {F : va_W} : (h0, .inr (5, flv 74 (mfv ad M))) ∈ mw dA h0 ad M ++ F := List.mem_of_getElem? (i := 0) rfl
/-! set fields -/
theorem mfv_sI {ad : Nat → Nat} {M : MS} {k : Nat} {v : Int32} (hk : mkk k = 0) : upN (mfv ad M) k (.int v) = mfv ad (sI M k v) := by
  funext j
  by_cases h : j = k
  · subst h; rw [upN_s]; unfold mfv; rw [hk]; show _ = Value.int (upN M.1 j v j); rw [upN_s]
  · rw [upN_n h]; unfold mfv; show _ = match mkk j with | 0 => Value.int (upN M.1 k v j) | 1 => _ | 2 => _ | _ => _; rw [upN_n h]; rfl
theorem mfv_sL {ad : Nat → Nat} {M : MS} {k : Nat} {v : Int64} (hk : mkk k = 1) : upN (mfv ad M) k (.long v) = mfv ad (sL M k v) := by
  funext j
  by_cases h : j = k
  · subst h; rw [upN_s]; unfold mfv; rw [hk]; show _ = Value.long (upN M.2.1 j v j); rw [upN_s]
  · rw [upN_n h]; unfold mfv; show _ = match mkk j with | 0 => _ | 1 => Value.long (upN M.2.1 k v j) | 2 => _ | _ => _; rw [upN_n h]; rfl
theorem mfv_sR {ad : Nat → Nat} {M : MS} {k : Nat} {v : Option Nat} (hk : mkk k = 3) : upN (mfv ad M) k (va_rf v) = mfv ad (sR M k v) := by
  funext j
  by_cases h : j = k
  · subst h; rw [upN_s]; unfold mfv; rw [hk]; show _ = va_rf (upN M.2.2.1 j v j); rw [upN_s]
  · rw [upN_n h]; unfold mfv; show _ = match mkk j with | 0 => _ | 1 => _ | 2 => _ | _ => va_rf (upN M.2.2.1 k v j); rw [upN_n h]; rfl
section MR
variable {p : Program} {l : Launch} {e : Env} {R : Room} {s : State} {m : MethodId} {args : Array Value} {below : List Frame} {meth : Method} {c : Code} {H : Heap} {locs : List Loc} {cells slots : Nat} {Q : State → Prop} {cc : ByteArray} {pc : Nat} {ls : Array Slot} {rest : List Value}
variable {nL : Nat} {own : String} {D : va_G} {dA : Nat → ClassId} {B : Nat} {Z : State → Prop} {d mc ms : Nat} {ws F : va_W} {h0 : Nat} {ad : Nat → Nat} {M : MS}
theorem m_g0 (C : Cx p R s m args c cc nL RX7 D dA B Z d mc ms) (h : Wd D B s (mw dA h0 ad M ++ F) H locs) (k : Nat) {idx : Nat} (hk : k < 74) (q : Cond.fieldLink RX7 idx RX7 (TX7 k).2.1 (TX7 k).2.2.1 ∈ lw_all) {v : Value} (hv : mfv ad M k = v) (hT : (TX7 k).1 = RX7)
    (hdg : decode cc pc = .ok (.getfield idx, 3)) (kk : W p l e R s m args below meth c H locs cells slots Q (F0 m (pc + 3) ls (v :: rest))) : W p l e R s m args below meth c H locs cells slots Q (F0 m pc ls (.ref h0 :: rest)) := by
  obtain ⟨hx, hb, hml, hown, hts, hK, hN, hz, hZ, hB, hRf, hRl, hRc, hRs⟩ := C
  exact va_get (D := D) (ci := 5) (C := RX7) (T := TX7) (N := 74) hx hb hts in_X7 hown hK h.1 0 rfl rfl k hk (hts _ q) (fun _ h9 => hT ▸ h9) ((flv_get hk).trans (congrArg some hv)) hdg kk
theorem m_gi (C : Cx p R s m args c cc nL RX7 D dA B Z d mc ms) (h : Wd D B s (mw dA h0 ad M ++ F) H locs) (k : Nat) {idx : Nat} (hk : k < 74) (hkk : mkk k = 0) (hT : (TX7 k).1 = RX7) (q : Cond.fieldLink RX7 idx RX7 (TX7 k).2.1 (TX7 k).2.2.1 ∈ lw_all) {v : Int32} (hv : mI M k = v)
    (hdg : decode cc pc = .ok (.getfield idx, 3)) (kk : W p l e R s m args below meth c H locs cells slots Q (F0 m (pc + 3) ls (.int v :: rest))) : W p l e R s m args below meth c H locs cells slots Q (F0 m pc ls (.ref h0 :: rest)) :=
  m_g0 C h k hk q (v := .int v) (by unfold mfv; rw [hkk, ← hv]; rfl) hT hdg kk
theorem m_gl (C : Cx p R s m args c cc nL RX7 D dA B Z d mc ms) (h : Wd D B s (mw dA h0 ad M ++ F) H locs) (k : Nat) {idx : Nat} (hk : k < 74) (hkk : mkk k = 1) (hT : (TX7 k).1 = RX7) (q : Cond.fieldLink RX7 idx RX7 (TX7 k).2.1 (TX7 k).2.2.1 ∈ lw_all) {v : Int64} (hv : mL M k = v)
    (hdg : decode cc pc = .ok (.getfield idx, 3)) (kk : W p l e R s m args below meth c H locs cells slots Q (F0 m (pc + 3) ls (.long v :: rest))) : W p l e R s m args below meth c H locs cells slots Q (F0 m pc ls (.ref h0 :: rest)) :=
  m_g0 C h k hk q (v := .long v) (by unfold mfv; rw [hkk, ← hv]; rfl) hT hdg kk
theorem m_gc (C : Cx p R s m args c cc nL RX7 D dA B Z d mc ms) (h : Wd D B s (mw dA h0 ad M ++ F) H locs) (k : Nat) {idx : Nat} (hk : k < 74) (hkk : mkk k = 2) (hT : (TX7 k).1 = RX7) (q : Cond.fieldLink RX7 idx RX7 (TX7 k).2.1 (TX7 k).2.2.1 ∈ lw_all)
    (hdg : decode cc pc = .ok (.getfield idx, 3)) (kk : W p l e R s m args below meth c H locs cells slots Q (F0 m (pc + 3) ls (.ref (ad k) :: rest))) : W p l e R s m args below meth c H locs cells slots Q (F0 m pc ls (.ref h0 :: rest)) :=
  m_g0 C h k hk q (v := .ref (ad k)) (by unfold mfv; rw [hkk]; rfl) hT hdg kk
theorem m_gr (C : Cx p R s m args c cc nL RX7 D dA B Z d mc ms) (h : Wd D B s (mw dA h0 ad M ++ F) H locs) (k : Nat) {idx : Nat} (hk : k < 74) (hkk : mkk k = 3) (hT : (TX7 k).1 = RX7) (q : Cond.fieldLink RX7 idx RX7 (TX7 k).2.1 (TX7 k).2.2.1 ∈ lw_all) {v : Option Nat} (hv : mR M k = v)
    (hdg : decode cc pc = .ok (.getfield idx, 3)) (kk : W p l e R s m args below meth c H locs cells slots Q (F0 m (pc + 3) ls (va_rf v :: rest))) : W p l e R s m args below meth c H locs cells slots Q (F0 m pc ls (.ref h0 :: rest)) :=
  m_g0 C h k hk q (v := va_rf v) (by unfold mfv; rw [hkk, ← hv]; rfl) hT hdg kk
theorem m_p0 (C : Cx p R s m args c cc nL RX7 D dA B Z d mc ms) (h : Wd D B s (mw dA h0 ad M ++ F) H locs) (k : Nat) {idx : Nat} {M1 : MS} (hk : k < 74) (hf : (TX7 k).2.2.2 = false) (hT : (TX7 k).1 = RX7) (q : Cond.fieldLink RX7 idx RX7 (TX7 k).2.1 (TX7 k).2.2.1 ∈ lw_all) {v : Value} (hn : narrow (tyX7 k) v = v) (hfit : fits (tyX7 k) v = true)
    (hs : upN (mfv ad M) k v = mfv ad M1) (hm : ∀ F, (mw dA h0 ad M ++ F).set 0 (h0, .inr (5, flv 74 (mfv ad M1))) = mw dA h0 ad M1 ++ F)
    (hdg : decode cc pc = .ok (.putfield idx, 3)) (kk : ∀ (H1 : Heap) (locs1 : List Loc), Wd D B s (mw dA h0 ad M1 ++ F) H1 locs1 → W p l e R s m args below meth c H1 locs1 cells slots Q (F0 m (pc + 3) ls rest)) : W p l e R s m args below meth c H locs cells slots Q (F0 m pc ls (v :: .ref h0 :: rest)) := by
  obtain ⟨hx, hb, hml, hown, hts, hK, hN, hz, hZ, hB, hRf, hRl, hRc, hRs⟩ := C
  refine va_put (D := D) (ci := 5) (C := RX7) (T := TX7) (N := 74) (ty := tyX7 k) hx hb hts in_X7 tyX7 tyX7_ok nmX7 hown hK h.1 h.2.1 h.2.2 0 rfl rfl k hk (hts _ q) (fun _ h9 => hT ▸ h9) hf (tyX7_ok k hk) hn hfit (by rw [flv_len]; exact hk) hdg (fun H1 locs1 hP hD hS => kk H1 locs1 ?_)
  rw [flv_set, hs, hm] at hP hD
  exact ⟨hP, hD, hS⟩
theorem m_pi (C : Cx p R s m args c cc nL RX7 D dA B Z d mc ms) (h : Wd D B s (mw dA h0 ad M ++ F) H locs) (k : Nat) {idx : Nat} {v : Int32} (hk : k < 74) (hkk : mkk k = 0) (hf : (TX7 k).2.2.2 = false) (hT : (TX7 k).1 = RX7) (q : Cond.fieldLink RX7 idx RX7 (TX7 k).2.1 (TX7 k).2.2.1 ∈ lw_all) (hn : narrow (tyX7 k) (.int v) = .int v) (hfit : fits (tyX7 k) (.int v) = true)
    (hdg : decode cc pc = .ok (.putfield idx, 3)) (kk : ∀ (H1 : Heap) (locs1 : List Loc), Wd D B s (mw dA h0 ad (sI M k v) ++ F) H1 locs1 → W p l e R s m args below meth c H1 locs1 cells slots Q (F0 m (pc + 3) ls rest)) : W p l e R s m args below meth c H locs cells slots Q (F0 m pc ls (.int v :: .ref h0 :: rest)) :=
  m_p0 C h k hk hf hT q hn hfit (mfv_sI hkk) (fun _ => rfl) hdg kk
theorem m_pl (C : Cx p R s m args c cc nL RX7 D dA B Z d mc ms) (h : Wd D B s (mw dA h0 ad M ++ F) H locs) (k : Nat) {idx : Nat} {v : Int64} (hk : k < 74) (hkk : mkk k = 1) (hf : (TX7 k).2.2.2 = false) (hT : (TX7 k).1 = RX7) (q : Cond.fieldLink RX7 idx RX7 (TX7 k).2.1 (TX7 k).2.2.1 ∈ lw_all) (hn : narrow (tyX7 k) (.long v) = .long v) (hfit : fits (tyX7 k) (.long v) = true)
    (hdg : decode cc pc = .ok (.putfield idx, 3)) (kk : ∀ (H1 : Heap) (locs1 : List Loc), Wd D B s (mw dA h0 ad (sL M k v) ++ F) H1 locs1 → W p l e R s m args below meth c H1 locs1 cells slots Q (F0 m (pc + 3) ls rest)) : W p l e R s m args below meth c H locs cells slots Q (F0 m pc ls (.long v :: .ref h0 :: rest)) :=
  m_p0 C h k hk hf hT q hn hfit (mfv_sL hkk) (fun _ => rfl) hdg kk
theorem m_pr (C : Cx p R s m args c cc nL RX7 D dA B Z d mc ms) (h : Wd D B s (mw dA h0 ad M ++ F) H locs) (k : Nat) {idx : Nat} {v : Option Nat} (hk : k < 74) (hkk : mkk k = 3) (hf : (TX7 k).2.2.2 = false) (hT : (TX7 k).1 = RX7) (q : Cond.fieldLink RX7 idx RX7 (TX7 k).2.1 (TX7 k).2.2.1 ∈ lw_all) (hn : narrow (tyX7 k) (va_rf v) = va_rf v) (hfit : fits (tyX7 k) (va_rf v) = true)
    (hdg : decode cc pc = .ok (.putfield idx, 3)) (kk : ∀ (H1 : Heap) (locs1 : List Loc), Wd D B s (mw dA h0 ad (sR M k v) ++ F) H1 locs1 → W p l e R s m args below meth c H1 locs1 cells slots Q (F0 m (pc + 3) ls rest)) : W p l e R s m args below meth c H locs cells slots Q (F0 m pc ls (va_rf v :: .ref h0 :: rest)) :=
  m_p0 C h k hk hf hT q hn hfit (mfv_sR hkk) (fun _ => rfl) hdg kk
/-! arrays, by membership -/
theorem n_iald (C : Cx p R s m args c cc nL own D dA B Z d mc ms) (h : Wd D B s ws H locs) {a n i v : Nat} {g : Nat → Nat} (hm : (a, iar dA n g) ∈ ws) (hi : i < n) (hn : n < 2147483648) (hv : g i = v) (hdg : decode cc pc = .ok (.iaload, 1))
    (kk : W p l e R s m args below meth c H locs cells slots Q (F0 m (pc + 1) ls (.int (nI v) :: rest))) : W p l e R s m args below meth c H locs cells slots Q (F0 m pc ls (.int (nI i) :: .ref a :: rest)) := by
  obtain ⟨hx, hb, hml, hown, hts, hK, hN, hz, hZ, hB, hRf, hRl, hRc, hRs⟩ := C
  obtain ⟨q0, hq⟩ := List.getElem?_of_mem hm
  refine va_iald hx hb hK h.1 q0 0 hq rfl (vp_in_nI hi hn) hdg ?_
  rw [nI_clamp (Nat.lt_trans hi hn)]
  subst hv
  exact kk
theorem n_wald (C : Cx p R s m args c cc nL own D dA B Z d mc ms) (h : Wd D B s ws H locs) {a n i : Nat} {v : Int32} {g : Nat → Int32} (hm : (a, war dA n g) ∈ ws) (hi : i < n) (hn : n < 2147483648) (hv : g i = v) (hdg : decode cc pc = .ok (.iaload, 1))
    (kk : W p l e R s m args below meth c H locs cells slots Q (F0 m (pc + 1) ls (.int v :: rest))) : W p l e R s m args below meth c H locs cells slots Q (F0 m pc ls (.int (nI i) :: .ref a :: rest)) := by
  obtain ⟨hx, hb, hml, hown, hts, hK, hN, hz, hZ, hB, hRf, hRl, hRc, hRs⟩ := C
  obtain ⟨q0, hq⟩ := List.getElem?_of_mem hm
  refine va_iald hx hb hK h.1 q0 0 hq rfl (vp_in_nI hi hn) hdg ?_
  rw [nI_clamp (Nat.lt_trans hi hn)]
  subst hv
  exact kk
theorem n_lald (C : Cx p R s m args c cc nL own D dA B Z d mc ms) (h : Wd D B s ws H locs) {a n i v : Nat} {g : Nat → Nat} (hm : (a, lar dA n g) ∈ ws) (hi : i < n) (hn : n < 2147483648) (hv : g i = v) (hdg : decode cc pc = .ok (.laload, 1))
    (kk : W p l e R s m args below meth c H locs cells slots Q (F0 m (pc + 1) ls (.long (lN v) :: rest))) : W p l e R s m args below meth c H locs cells slots Q (F0 m pc ls (.int (nI i) :: .ref a :: rest)) := by
  obtain ⟨hx, hb, hml, hown, hts, hK, hN, hz, hZ, hB, hRf, hRl, hRc, hRs⟩ := C
  obtain ⟨q0, hq⟩ := List.getElem?_of_mem hm
  refine va_lald hx hb hK h.1 q0 2 hq rfl (vp_in_nI hi hn) hdg ?_
  rw [nI_clamp (Nat.lt_trans hi hn)]
  subst hv
  exact kk
theorem n_zald (C : Cx p R s m args c cc nL own D dA B Z d mc ms) (h : Wd D B s ws H locs) {a n i v : Nat} {g : Nat → Nat} (hm : (a, zar dA n g) ∈ ws) (hi : i < n) (hn : n < 2147483648) (hv : g i = v) (hdg : decode cc pc = .ok (.baload, 1))
    (kk : W p l e R s m args below meth c H locs cells slots Q (F0 m (pc + 1) ls (.int (nI v) :: rest))) : W p l e R s m args below meth c H locs cells slots Q (F0 m pc ls (.int (nI i) :: .ref a :: rest)) := by
  obtain ⟨hx, hb, hml, hown, hts, hK, hN, hz, hZ, hB, hRf, hRl, hRc, hRs⟩ := C
  obtain ⟨q0, hq⟩ := List.getElem?_of_mem hm
  refine va_zald hx hb hK h.1 q0 3 hq rfl (vp_in_nI hi hn) hdg ?_
  rw [nI_clamp (Nat.lt_trans hi hn)]
  subst hv
  exact kk
theorem n_aald (C : Cx p R s m args c cc nL own D dA B Z d mc ms) (h : Wd D B s ws H locs) {a n i : Nat} {v : Option Nat} {g : Nat → Option Nat} (hm : (a, aar dA n g) ∈ ws) (hi : i < n) (hn : n < 2147483648) (hv : g i = v) (hdg : decode cc pc = .ok (.aaload, 1))
    (kk : W p l e R s m args below meth c H locs cells slots Q (F0 m (pc + 1) ls (va_rf v :: rest))) : W p l e R s m args below meth c H locs cells slots Q (F0 m pc ls (.int (nI i) :: .ref a :: rest)) := by
  obtain ⟨hx, hb, hml, hown, hts, hK, hN, hz, hZ, hB, hRf, hRl, hRc, hRs⟩ := C
  obtain ⟨q0, hq⟩ := List.getElem?_of_mem hm
  subst hv
  have hcl : (nI i).toNatClampNeg = i := nI_clamp (Nat.lt_trans hi hn)
  exact W.aald (v := va_rf (g i)) (ty := .array .int) hx hb (h.1 q0 _ hq) ((hK.2 6 _ rfl).1 n (fun j => va_rf (g j))) rfl (fun q => by cases q) (by show ¬ (nI i < 0 ∨ (arrV _ _ _).slots.size ≤ _); rw [arrV_size]; exact vp_in_nI hi hn) (by show (arrV _ _ _).slots[_]? = _; rw [hcl, arrV_read _ _ hi]) rfl rfl hdg kk
theorem n_alen (C : Cx p R s m args c cc nL own D dA B Z d mc ms) (h : Wd D B s ws H locs) {a n : Nat} {g : Nat → Nat} (hm : (a, iar dA n g) ∈ ws) (hdg : decode cc pc = .ok (.arraylength, 1))
    (kk : W p l e R s m args below meth c H locs cells slots Q (F0 m (pc + 1) ls (.int (nI n) :: rest))) : W p l e R s m args below meth c H locs cells slots Q (F0 m pc ls (.ref a :: rest)) := by
  obtain ⟨hx, hb, hml, hown, hts, hK, hN, hz, hZ, hB, hRf, hRl, hRc, hRs⟩ := C
  obtain ⟨q0, hq⟩ := List.getElem?_of_mem hm
  exact va_alen (v := nI n) hx hb hK h.1 q0 0 hq rfl rfl hdg kk
theorem n_lalen (C : Cx p R s m args c cc nL own D dA B Z d mc ms) (h : Wd D B s ws H locs) {a n : Nat} {g : Nat → Nat} (hm : (a, lar dA n g) ∈ ws) (hdg : decode cc pc = .ok (.arraylength, 1))
    (kk : W p l e R s m args below meth c H locs cells slots Q (F0 m (pc + 1) ls (.int (nI n) :: rest))) : W p l e R s m args below meth c H locs cells slots Q (F0 m pc ls (.ref a :: rest)) := by
  obtain ⟨hx, hb, hml, hown, hts, hK, hN, hz, hZ, hB, hRf, hRl, hRc, hRs⟩ := C
  obtain ⟨q0, hq⟩ := List.getElem?_of_mem hm
  exact va_alen (v := nI n) hx hb hK h.1 q0 2 hq rfl rfl hdg kk
/-! stores into the model's own arrays -/
theorem m_iast (C : Cx p R s m args c cc nL own D dA B Z d mc ms) (h : Wd D B s (mw dA h0 ad M ++ F) H locs) (k : Nat) {i v n : Nat} (hk : k ∈ mkG) (hn : mlen k = n) (hi : i < n) (hdg : decode cc pc = .ok (.iastore, 1))
    (kk : ∀ (H1 : Heap) (locs1 : List Loc), Wd D B s (mw dA h0 ad (sG M k (upN (mG M k) i v)) ++ F) H1 locs1 → W p l e R s m args below meth c H1 locs1 cells slots Q (F0 m (pc + 1) ls rest)) : W p l e R s m args below meth c H locs cells slots Q (F0 m pc ls (.int (nI v) :: .int (nI i) :: .ref (ad k) :: rest)) := by
  obtain ⟨hx, hb, hml, hown, hts, hK, hN, hz, hZ, hB, hRf, hRl, hRc, hRs⟩ := C
  obtain ⟨q0, hq⟩ := mw_G hk
  obtain ⟨q1, q2⟩ := hq dA h0 ad M F
  subst hn
  have hcl : (nI i).toNatClampNeg = i := nI_clamp (Nat.lt_trans hi (mlen_lt k))
  refine va_iast hx hb hK h.1 h.2.1 h.2.2 q0 0 q1 rfl (vp_in_nI hi (mlen_lt k)) hdg (fun H1 locs1 hP hD hS => kk H1 locs1 ?_)
  rw [hcl, upN_upd, upN_map nI] at hP hD
  exact ⟨(q2 (upN (mG M k) i v)) ▸ hP, (q2 (upN (mG M k) i v)) ▸ hD, hS⟩
theorem m_wast (C : Cx p R s m args c cc nL own D dA B Z d mc ms) (h : Wd D B s (mw dA h0 ad M ++ F) H locs) (k : Nat) {i n : Nat} {v : Int32} (hk : k ∈ mkW) (hn : mlen k = n) (hi : i < n) (hdg : decode cc pc = .ok (.iastore, 1))
    (kk : ∀ (H1 : Heap) (locs1 : List Loc), Wd D B s (mw dA h0 ad (sW M k (upN (mW M k) i v)) ++ F) H1 locs1 → W p l e R s m args below meth c H1 locs1 cells slots Q (F0 m (pc + 1) ls rest)) : W p l e R s m args below meth c H locs cells slots Q (F0 m pc ls (.int v :: .int (nI i) :: .ref (ad k) :: rest)) := by
  obtain ⟨hx, hb, hml, hown, hts, hK, hN, hz, hZ, hB, hRf, hRl, hRc, hRs⟩ := C
  obtain ⟨q0, hq⟩ := mw_W hk
  obtain ⟨q1, q2⟩ := hq dA h0 ad M F
  subst hn
  have hcl : (nI i).toNatClampNeg = i := nI_clamp (Nat.lt_trans hi (mlen_lt k))
  refine va_iast hx hb hK h.1 h.2.1 h.2.2 q0 0 q1 rfl (vp_in_nI hi (mlen_lt k)) hdg (fun H1 locs1 hP hD hS => kk H1 locs1 ?_)
  rw [hcl, upN_upd] at hP hD
  exact ⟨(q2 (upN (mW M k) i v)) ▸ hP, (q2 (upN (mW M k) i v)) ▸ hD, hS⟩
theorem m_last (C : Cx p R s m args c cc nL own D dA B Z d mc ms) (h : Wd D B s (mw dA h0 ad M ++ F) H locs) (k : Nat) {i v n : Nat} (hk : k ∈ mkL) (hn : mlen k = n) (hi : i < n) (hdg : decode cc pc = .ok (.lastore, 1))
    (kk : ∀ (H1 : Heap) (locs1 : List Loc), Wd D B s (mw dA h0 ad (sG M k (upN (mG M k) i v)) ++ F) H1 locs1 → W p l e R s m args below meth c H1 locs1 cells slots Q (F0 m (pc + 1) ls rest)) : W p l e R s m args below meth c H locs cells slots Q (F0 m pc ls (.long (lN v) :: .int (nI i) :: .ref (ad k) :: rest)) := by
  obtain ⟨hx, hb, hml, hown, hts, hK, hN, hz, hZ, hB, hRf, hRl, hRc, hRs⟩ := C
  obtain ⟨q0, hq⟩ := mw_L hk
  obtain ⟨q1, q2⟩ := hq dA h0 ad M F
  subst hn
  have hcl : (nI i).toNatClampNeg = i := nI_clamp (Nat.lt_trans hi (mlen_lt k))
  refine va_last hx hb hK h.1 h.2.1 h.2.2 q0 2 q1 rfl (vp_in_nI hi (mlen_lt k)) hdg (fun H1 locs1 hP hD hS => kk H1 locs1 ?_)
  rw [hcl, upN_updL, upN_map lN] at hP hD
  exact ⟨(q2 (upN (mG M k) i v)) ▸ hP, (q2 (upN (mG M k) i v)) ▸ hD, hS⟩
end MR
