set_option maxRecDepth 100000
/-! a ring as packets -/
theorem asg_self (vm : Vm) (c : ClassId) : vm.assignable c c = true := by
  show Vm.assignableAux _ (255 + 1) _ _ = true
  rw [Vm.assignableAux, beq_self_eq_true, Bool.true_or]
section RR
variable {p : Program} {l : Launch} {e : Env} {R : Room} {s : State} {m : MethodId} {args : Array Value} {below : List Frame} {meth : Method} {c : Code} {H : Heap} {locs : List Loc} {cells slots : Nat} {Q : State → Prop} {cc : ByteArray} {pc : Nat} {ls : Array Slot} {rest : List Value}
variable {nL : Nat} {own : String} {D : va_G} {dA : Nat → ClassId} {B : Nat} {Z : State → Prop} {d mc ms : Nat} {ws F : va_W} {h0 : Nat} {ad : Nat → Nat} {M : MS}
theorem m_aast (C : Cx p R s m args c cc nL own D dA B Z d mc ms) (h : Wd D B s (mw dA h0 ad M ++ F) H locs) (k : Nat) {i n : Nat} {o : Option Nat} (hzs : ZS dA B Z) (hk : k ∈ mkA) (hn : mlen k = n) (hi : i < n) (ho : ∀ a, o = some a → ∃ (n9 : Nat) (g9 : Nat → Nat), (a, iar dA n9 g9) ∈ mw dA h0 ad M ++ F) (hdg : decode cc pc = .ok (.aastore, 1))
    (kk : ∀ (H1 : Heap) (locs1 : List Loc), Wd D B s (mw dA h0 ad (sA M k (upN (mA M k) i o)) ++ F) H1 locs1 → W p l e R s m args below meth c H1 locs1 cells slots Q (F0 m (pc + 1) ls rest)) : W p l e R s m args below meth c H locs cells slots Q (F0 m pc ls (va_rf o :: .int (nI i) :: .ref (ad k) :: rest)) := by
  obtain ⟨hx, hb, hml, hown, hts, hK, hN, hz, hZ, hB, hRf, hRl, hRc, hRs⟩ := C
  obtain ⟨q0, hq⟩ := mw_A hk
  obtain ⟨q1, q2⟩ := hq dA h0 ad M F
  subst hn
  have hcl : (nI i).toNatClampNeg = i := nI_clamp (Nat.lt_trans hi (mlen_lt k))
  obtain ⟨comp, cA, kA, e1, -, e3, e4, e5⟩ := arrayOverA_spec (hzs.2.2.2.1 s hz)
  have f1 : comp = dA 0 := Option.some.inj (e1.symm.trans (va_nm_int (hK.2 0 _ rfl).2))
  have f2 : cA = dA 6 := Option.some.inj (e5.symm.trans (hK.2 6 _ rfl).2)
  subst f1 f2
  obtain ⟨-, k0, hk0, -⟩ := (hK.2 0 _ rfl).1 0 (fun _ => .null)
  have hin : vp_in (nI i) (mlen k) := vp_in_nI hi (mlen_lt k)
  have fin : ∀ (H1 : Heap) (locs1 : List Loc), H1[ad k]? = some ((arrV (dA 6) (mlen k) (fun j => va_rf (mA M k j))).setSlot (nI i).toNatClampNeg (va_rf o)) → H1.size = H.size → (∀ q, q ≠ ad k → H1[q]? = H[q]?) → locs1 = locs ++ [⟨ad k, (nI i).toNatClampNeg⟩] → Wd D B s (mw dA h0 ad (sA M k (upN (mA M k) i o)) ++ F) H1 locs1 := by
    intro H1 locs1 ee z oq hlo
    subst hlo
    rw [← q2]
    refine ⟨h.1.set h.2.1 q1 ?_ oq, h.2.1.set q1, h.2.2.put z oq (h.2.1.2 q0 _ q1)⟩
    show H1[ad k]? = some (arrV (dA 6) (mlen k) (fun j => va_rf (upN (mA M k) i o j)))
    rw [ee, arrV_store, hcl]
    congr 2
    funext j
    rw [upN_if]
    unfold updV
    split <;> rfl
  cases o with
  | none =>
    intro T hT X
    have hT' : T.heap[ad k]? = some (arrV (dA 6) (mlen k) (fun j => va_rf (mA M k j))) := by rw [hT]; exact h.1 q0 _ q1
    obtain ⟨X', st⟩ := X.aastoreNullIn hx (j := nI i) hT' (fun q h => by cases h) (fun h => by cases h) e3 e4 rfl ⟨fun q => hin (Or.inl q), by rw [arrV_size, hcl]; exact hi⟩ (g := F0 m pc ls (.null :: .int (nI i) :: .ref (ad k) :: rest)) rfl rfl (by rw [hb]; exact hdg)
    have hlt : ad k < T.heap.size := (Array.getElem?_eq_some_iff.mp hT').1
    obtain ⟨t', a1, b1⟩ := kk _ _ (fin (T.setCell (ad k) ((arrV (dA 6) (mlen k) (fun j => va_rf (mA M k j))).setSlot (nI i).toNatClampNeg .null)).heap _ (heapAt_setCell_self _ hlt) (by rw [size_setCell, hT]) (fun q hq => by rw [heapAt_setCell_ne _ (Ne.symm hq), hT]) rfl) _ rfl X'
    exact ⟨t', st t' a1, b1⟩
  | some a =>
    obtain ⟨n9, g9, hm9⟩ := ho a rfl
    obtain ⟨q9, hq9⟩ := List.getElem?_of_mem hm9
    exact W.aast hx hb (h.1 q0 _ q1) (fun q h => by cases h) (fun h => by cases h) e3 e4 rfl hk0 ⟨fun q => hin (Or.inl q), by show _ < (arrV _ _ _).slots.size; rw [arrV_size, hcl]; exact hi⟩ (h.1 q9 _ hq9) (fun q h => by cases h) hk0 (asg_self s.vm (dA 0)) rfl rfl hdg (fun H1 ee z oq => kk H1 _ (fin H1 _ ee z oq rfl))
end RR
/-- kind, body, secret -/
abbrev PK : Type := Nat × List Nat × Option (List Nat)
def refIs (dA : Nat → ClassId) (F : va_W) (o : Option Nat) (l : Option (List Nat)) : Prop := match l with
  | none => o = none
  | some b => ∃ a, o = some a ∧ (a, ial dA b) ∈ F
theorem refIs.up {dA : Nat → ClassId} {F F' : va_W} {o : Option Nat} {l : Option (List Nat)} (h : refIs dA F o l) (hs : ∀ x ∈ F, x ∈ F') : refIs dA F' o l := by
  cases l with
  | none => exact h
  | some b => obtain ⟨a, h1, h2⟩ := h; exact ⟨a, h1, hs _ h2⟩
def RingAt (dA : Nat → ClassId) (F : va_W) (M : MS) (k b c : Nat) (L : List PK) : Prop := ∀ j p, L[j]? = some p → mG M k j = p.1 ∧ refIs dA F (mA M b j) (some p.2.1) ∧ refIs dA F (mA M c j) p.2.2
theorem RingAt.up {dA : Nat → ClassId} {F F' : va_W} {M M' : MS} {k b c : Nat} {L : List PK} (h : RingAt dA F M k b c L) (hs : ∀ x ∈ F, x ∈ F') (h1 : mG M' k = mG M k) (h2 : mA M' b = mA M b) (h3 : mA M' c = mA M c) : RingAt dA F' M' k b c L := by
  intro j p hj
  obtain ⟨a1, a2, a3⟩ := h j p hj
  rw [h1, h2, h3]
  exact ⟨a1, a2.up hs, a3.up hs⟩
/-! a body's front alone -/
theorem gD_take {l : List Nat} {m j : Nat} (h : j < m) : gD (l.take m) j = gD l j := by
  unfold gD
  rw [List.getD_eq_getElem?_getD, List.getD_eq_getElem?_getD, List.getElem?_take, if_pos h]
theorem numS_mono (l : List Nat) (u : OU) : u.1 ≤ (numS l u).2.1 := by
  have h := someS_mono l 2 0 u
  unfold numS
  split
  · exact h
  · exact Nat.le_trans h (Nat.le_add_right _ _)
theorem oneS_tk {l : List Nat} {m : Nat} {u : OU} (hm : m ≤ l.length) (h : (oneS l u).2.1 ≤ m) (hr : (oneS l u).2.2 = true) : oneS (l.take m) u = oneS l u ∧ u.2 = true := by
  unfold oneS at h hr ⊢
  rw [List.length_take, Nat.min_eq_left hm]
  split at hr
  · cases hr
  · next q =>
    rw [if_neg q] at h ⊢
    have h1 : u.1 + 1 ≤ m := h
    rw [if_neg (by omega), gD_take (by omega)]
    exact ⟨rfl, hr⟩
theorem someS_tk {l : List Nat} {m : Nat} (hm : m ≤ l.length) : ∀ (n v : Nat) (u : OU), (someS l n v u).2.1 ≤ m → (someS l n v u).2.2 = true → someS (l.take m) n v u = someS l n v u ∧ u.2 = true := by
  intro n
  induction n with
  | zero => intro v u _ hr; exact ⟨rfl, hr⟩
  | succ n ih =>
    intro v u h hr
    have h1 := ih _ _ h hr
    have h2 := oneS_tk (u := u) hm (Nat.le_trans (someS_mono l n _ _) h) h1.2
    refine ⟨?_, h2.2⟩
    show someS (l.take m) n (v * 256 + (oneS (l.take m) u).1) (oneS (l.take m) u).2 = someS l n (v * 256 + (oneS l u).1) (oneS l u).2
    rw [h2.1]
    exact h1.1
theorem numS_tk {l : List Nat} {m : Nat} {u : OU} (hm : m ≤ l.length) (h : (numS l u).2.1 ≤ m) (hr : (numS l u).2.2 = true) : numS (l.take m) u = numS l u ∧ u.2 = true := by
  unfold numS at h hr
  split at hr
  · cases hr
  · next q =>
    rw [if_neg q] at h
    have h1 : (someS l 2 0 u).2.1 + ((someS l 2 0 u).1 + 7) / 8 ≤ m := h
    rw [Bool.and_eq_true] at hr
    have h2 := someS_tk hm 2 0 u (by omega) hr.1
    refine ⟨?_, h2.2⟩
    unfold numS
    rw [h2.1, List.length_take, Nat.min_eq_left hm, if_neg q, if_neg (by omega)]
    have e1 : sliceL (l.take m) (someS l 2 0 u).2.1 (((someS l 2 0 u).1 + 7) / 8) = sliceL l (someS l 2 0 u).2.1 (((someS l 2 0 u).1 + 7) / 8) := by
      unfold sliceL
      rw [List.drop_take, List.take_take, Nat.min_eq_left (by omega)]
    rw [e1]
    by_cases z : ((someS l 2 0 u).1 + 7) / 8 = 0
    · rw [decide_eq_true z, Bool.true_or, Bool.true_or]
    · rw [gD_take (by omega)]
theorem keyOk_take {l : List Nat} {hs : Bool} (h : keyOk l hs = true) (hb : byt l) : keyOk (l.take (kSize l)) false = true := by
  have l1 : (kU1 l).2.1 ≤ l.length := (oneS_le (Nat.zero_le _)).1
  have l2 : (kU2 l).2.1 ≤ l.length := (someS_ok hb 4 0 0 _ l1 (by decide)).2.1
  have l3 : (kU3 l).2.1 ≤ l.length := (oneS_le l2).1
  have n4 := numS_ok hb _ l3
  have hm : kSize l ≤ l.length := (numS_ok hb (kU4 l).2 n4.1).1
  have h0 := h
  unfold keyOk at h
  rw [Bool.and_eq_true, Bool.and_eq_true] at h
  have hr : (kU5 l).2.2 = true := by
    have := h.1.1
    unfold kHead at this
    simp only [Bool.and_eq_true] at this
    exact this.1.1.1.1
  have m5 := numS_mono l (kU4 l).2
  have m4 := numS_mono l (kU3 l).2
  have m3 := oneS_mono l (kU2 l).2
  have m2 := someS_mono l 4 0 (kU1 l).2
  have k5 := numS_tk (u := (kU4 l).2) hm (Nat.le_refl _) hr
  have k4 := numS_tk (u := (kU3 l).2) hm m5 k5.2
  have k3 := oneS_tk (u := (kU2 l).2) hm (Nat.le_trans m4 m5) k4.2
  have k2 := someS_tk hm 4 0 (kU1 l).2 (Nat.le_trans m3 (Nat.le_trans m4 m5)) k3.2
  have k1 := oneS_tk (u := (0, true)) hm (Nat.le_trans m2 (Nat.le_trans m3 (Nat.le_trans m4 m5))) k2.2
  have e1 : kU1 (l.take (kSize l)) = kU1 l := k1.1
  have e2 : kU2 (l.take (kSize l)) = kU2 l := by unfold kU2; rw [e1]; exact k2.1
  have e3 : kU3 (l.take (kSize l)) = kU3 l := by unfold kU3; rw [e2]; exact k3.1
  have e4 : kU4 (l.take (kSize l)) = kU4 l := by unfold kU4; rw [e3]; exact k4.1
  have e5 : kU5 (l.take (kSize l)) = kU5 l := by unfold kU5; rw [e4]; exact k5.1
  have eN : kN (l.take (kSize l)) = kN l := congrArg Prod.fst e4
  have eE : kE (l.take (kSize l)) = kE l := congrArg Prod.fst e5
  unfold keyOk
  rw [Bool.and_eq_true, Bool.and_eq_true, if_neg (by decide)]
  refine ⟨⟨?_, ?_⟩, ?_⟩
  · unfold kHead
    rw [e5, e1, e3, eN, eE]
    exact h.1.1
  · unfold kNums
    rw [eN, eE]
    exact h.1.2
  · rw [e5, hr, Bool.true_and]
    refine decide_eq_true ?_
    show (kU5 (l.take (kSize l))).2.1 = _
    rw [e5, List.length_take, Nat.min_eq_left hm]
    rfl
/-- what packets of a ring are like -/
def pkGood (p : PK) : Prop := (p.1 = 2 → oursL p.2.1 = true ∧ sealOk p.2.1 = true ∧ 0 < p.2.1.length) ∧ (p.1 = 6 ∨ p.1 = 14 → keyOk p.2.1 false = true) ∧ (p.1 = 2 ∨ p.1 = 6 ∨ p.1 = 13 ∨ p.1 = 14)
def PKok (p : PK) : Prop := p.1 < 100 ∧ byt p.2.1 ∧ p.2.1.length ≤ 4096 ∧ (∀ z, p.2.2 = some z → byt z ∧ z.length ≤ 4096) ∧ pkGood p
def PKs (L : List PK) : Prop := ∀ p ∈ L, PKok p
def sk (P : PK → Bool) (L : List PK) (q : Nat) : Nat := q + ((L.drop q).takeWhile P).length
theorem sk_end {P : PK → Bool} {L : List PK} {q : Nat} (h : L.length ≤ q) : sk P L q = q := by
  unfold sk; rw [List.drop_eq_nil_of_le h]; rfl
theorem sk_stop {P : PK → Bool} {L : List PK} {q : Nat} {x : PK} (h : L[q]? = some x) (hx : P x = false) : sk P L q = q := by
  unfold sk
  obtain ⟨h1, h2⟩ := List.getElem?_eq_some_iff.mp h
  rw [List.drop_eq_getElem_cons h1, List.takeWhile_cons, h2, hx]
  rfl
theorem sk_go {P : PK → Bool} {L : List PK} {q : Nat} {x : PK} (h : L[q]? = some x) (hx : P x = true) : sk P L q = sk P L (q + 1) := by
  unfold sk
  obtain ⟨h1, h2⟩ := List.getElem?_eq_some_iff.mp h
  rw [List.drop_eq_getElem_cons h1, List.takeWhile_cons, h2, hx, if_pos rfl, List.length_cons]
  omega
theorem sk_le {P : PK → Bool} {L : List PK} {q : Nat} (h : q ≤ L.length) : sk P L q ≤ L.length ∧ q ≤ sk P L q := by
  unfold sk
  have := (List.takeWhile_sublist P (l := L.drop q)).length_le
  rw [List.length_drop] at this
  omega
def notK (k : Nat) (x : PK) : Bool := !decide (x.1 = k)
def isK (k : Nat) (x : PK) : Bool := decide (x.1 = k)
def cntF (L : List PK) (k : Nat) : Nat → Nat → Nat
  | 0, _ => 0
  | n + 1, a => cntF L k n a + (if (L[a + n]?.map (·.1)) = some k then 1 else 0)
theorem cntF_le (L : List PK) (k n a : Nat) : cntF L k n a ≤ n := by
  induction n with
  | zero => exact Nat.le_refl _
  | succ n ih => rw [cntF]; split <;> omega
def findF (P : PK → Bool) (L : List PK) : Nat → Nat → Option Nat
  | 0, _ => none
  | n + 1, a => if (L[a]?.map P) = some true then some a else findF P L n (a + 1)
theorem findF_lt {P : PK → Bool} {L : List PK} : ∀ {n a i : Nat}, findF P L n a = some i → a ≤ i ∧ i < a + n ∧ ∃ x, L[i]? = some x ∧ P x = true := by
  intro n
  induction n with
  | zero => intro a i h; cases h
  | succ n ih =>
    intro a i h
    rw [findF] at h
    split at h
    · next q =>
      cases h
      refine ⟨Nat.le_refl _, by omega, ?_⟩
      cases hx : L[a]? with
      | none => rw [hx] at q; cases q
      | some x => rw [hx] at q; exact ⟨x, rfl, Option.some.inj q⟩
    · have := ih h
      exact ⟨by omega, by omega, this.2.2⟩
def insF (L : List PK) (p : Nat) (x : PK) : List PK := L.take p ++ [x] ++ L.drop p
theorem insF_get {L : List PK} {p : Nat} {x : PK} (hp : p ≤ L.length) (j : Nat) : (insF L p x)[j]? = if j < p then L[j]? else if j = p then some x else L[j - 1]? := by
  unfold insF
  have hl : (L.take p).length = p := by rw [List.length_take]; omega
  by_cases h1 : j < p
  · rw [if_pos h1, List.append_assoc, List.getElem?_append_left (by omega), List.getElem?_take, if_pos h1]
  · rw [if_neg h1]
    by_cases h2 : j = p
    · rw [if_pos h2, List.append_assoc, List.getElem?_append_right (by omega), hl, h2, Nat.sub_self]; rfl
    · rw [if_neg h2, List.getElem?_append_right (by rw [List.length_append, hl]; show p + 1 ≤ j; omega), List.length_append, hl, List.getElem?_drop]
      congr 1
      show p + (j - (p + 1)) = j - 1
      omega
theorem insF_len {L : List PK} {p : Nat} {x : PK} (hp : p ≤ L.length) : (insF L p x).length = L.length + 1 := by
  unfold insF
  rw [List.length_append, List.length_append, List.length_take, List.length_drop]
  show min p L.length + 1 + (L.length - p) = _
  omega
/-- what a coming packet may change -/
def Kc (M M' : MS) : Prop := (∀ k, k ∉ kI → k ≠ 16 → k ≠ 33 → mI M' k = mI M k) ∧ (∀ k, k ∉ kL → mL M' k = mL M k) ∧ (∀ k, k ∉ kR → mR M' k = mR M k) ∧ (∀ k, k ∉ kG → k ≠ 17 → mG M' k = mG M k) ∧ (∀ k, k ≠ 18 → k ≠ 19 → mA M' k = mA M k)
theorem Kp.kc {M M' : MS} (h : Kp M M') : Kc M M' := ⟨fun k h1 _ _ => h.1 k h1, h.2.1, h.2.2.1, fun k h1 _ => h.2.2.2.1 k h1, fun k _ _ => by rw [h.2.2.2.2]⟩
theorem Kc.trans {M M' M'' : MS} (h1 : Kc M M') (h2 : Kc M' M'') : Kc M M'' := ⟨fun k a b c => (h2.1 k a b c).trans (h1.1 k a b c), fun k a => (h2.2.1 k a).trans (h1.2.1 k a), fun k a => (h2.2.2.1 k a).trans (h1.2.2.1 k a), fun k a b => (h2.2.2.2.1 k a b).trans (h1.2.2.2.1 k a b), fun k a b => (h2.2.2.2.2 k a b).trans (h1.2.2.2.2 k a b)⟩
theorem Kc.i33 {M M' : MS} (h : Kc M M') (x : Int32) : Kc M (sI M' 33 x) := ⟨fun k a b c => (upN_n c).trans (h.1 k a b c), h.2⟩
/-- the ring that is joined aside -/
def NewR (dA : Nat → ClassId) (F : va_W) (ad : Nat → Nat) (M : MS) (L : List PK) : Prop := RingAt dA F M 17 18 19 L ∧ mI M 16 = nI L.length ∧ mR M 17 = some (ad 17) ∧ mR M 18 = some (ad 18) ∧ mR M 19 = some (ad 19)
theorem NewR.kp {dA : Nat → ClassId} {F F' : va_W} {ad : Nat → Nat} {M M' : MS} {L : List PK} (h : NewR dA F ad M L) (hk : Kp M M') (hs : ∀ x ∈ F, x ∈ F') : NewR dA F' ad M' L :=
  ⟨h.1.up hs (hk.2.2.2.1 17 (by decide)) (by rw [hk.2.2.2.2]) (by rw [hk.2.2.2.2]), (hk.1 16 (by decide)).trans h.2.1, (hk.2.2.1 17 (by decide)).trans h.2.2.1, (hk.2.2.1 18 (by decide)).trans h.2.2.2.1, (hk.2.2.1 19 (by decide)).trans h.2.2.2.2⟩
theorem PKs.at {L : List PK} (h : PKs L) {j : Nat} {p : PK} (hj : L[j]? = some p) : PKok p := h p (List.mem_of_getElem? hj)
theorem oI_ne {o : Option Nat} (h : ∀ i, o = some i → i < 100000) : oI o = -1 ↔ o = none := by
  constructor
  · intro q
    cases o with
    | none => rfl
    | some i =>
      have h1 := h i rfl
      have h2 : (nI i).toInt = -1 := by rw [show nI i = oI (some i) from rfl, q]; decide
      rw [nI_toInt (by omega)] at h2
      omega
  · intro q; rw [q]; rfl
