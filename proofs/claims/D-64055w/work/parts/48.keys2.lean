set_option maxRecDepth 100000
/-! how many keys and parts; what reading keys may change -/
def kpP (x : PK) : Bool := decide (x.1 = 6) || decide (x.1 = 14)
def wK (L : List PK) : Nat := L.countP kpP
theorem cntF_eq (L : List PK) (k : Nat) : ∀ n a, cntF L k n a = ((L.drop a).take n).countP (fun x => decide (x.1 = k)) := by
  intro n
  induction n with
  | zero => intro a; rw [cntF, List.take_zero]; rfl
  | succ n ih =>
    intro a
    rw [cntF, ih a, List.take_succ, List.countP_append, List.getElem?_drop]
    congr 1
    cases h : L[a + n]? with
    | none => rfl
    | some x =>
      rw [Option.map_some]
      by_cases z : x.1 = k
      · rw [if_pos (congrArg some z)]; simp [z]
      · rw [if_neg (fun y => z (Option.some.inj y))]; simp [z]
theorem cntF_wK {L : List PK} {k : Nat} (hk : k = 6 ∨ k = 14) (n a : Nat) : cntF L k n a ≤ wK L := by
  rw [cntF_eq]
  refine Nat.le_trans (List.countP_mono_left (fun x _ h => ?_)) (List.Sublist.countP_le ((List.take_sublist _ _).trans (List.drop_sublist _ _)))
  unfold kpP
  have h1 : x.1 = k := of_decide_eq_true h
  rcases hk with q | q <;> rw [h1, q] <;> rfl
theorem wK_ins (L : List PK) (p : Nat) (x : PK) : wK (insF L p x) = wK L + (if kpP x = true then 1 else 0) := by
  unfold wK insF
  rw [List.countP_append, List.countP_append, List.countP_singleton]
  have h : L.countP kpP = (L.take p).countP kpP + (L.drop p).countP kpP := by rw [← List.countP_append, List.take_append_drop]
  omega
theorem wK_map (L : List PK) : wK L = (L.map (·.1)).countP (fun k => decide (k = 6) || decide (k = 14)) := by
  unfold wK; rw [List.countP_map]; rfl
theorem setSec_map (L : List PK) (i : Nat) (sec : Option (List Nat)) : (setSec L i sec).map (·.1) = L.map (·.1) := by
  unfold setSec
  split
  · rfl
  · next x hx =>
    split
    · rw [List.map_set]
      apply List.ext_getElem?
      intro j
      rw [List.getElem?_set]
      split
      · next q =>
        subst q
        rw [List.getElem?_map, hx]
        split
        · rfl
        · next q2 =>
          rw [List.length_map] at q2
          rw [List.getElem?_eq_none (by omega)] at hx
          cases hx
      · rfl
    · rfl
theorem wK_sec (L : List PK) (i : Nat) (sec : Option (List Nat)) : wK (setSec L i sec) = wK L := by rw [wK_map, wK_map, setSec_map]
theorem comeS_w (L : List PK) (a b k most : Nat) (own : List Nat) (sec : Option (List Nat)) : wK (comeS L a b k most own sec).2 ≤ wK L + 1 := by
  unfold comeS
  cases hf : findF (prP k (sha1 (keyMsg own))) L (b - a) a with
  | some i => show wK (setSec L i sec) ≤ _; rw [wK_sec]; omega
  | none =>
    unfold comeK
    by_cases q : cntF L k (b - a) a = most
    · rw [if_pos q]; show wK L ≤ _; omega
    · rw [if_neg q]; show wK (insF L b _) ≤ _; rw [wK_ins]; split <;> omega
theorem userS_w (L : List PK) (q : Nat) (lb : List Nat) : wK (userS L q lb).2 = wK L := by
  unfold userS
  cases hf : findF (bdP 13 lb) L (sk usP L (q + 1) - (q + 1)) (q + 1) with
  | some i => rfl
  | none =>
    unfold userK
    by_cases z : 200 < lb.length ∨ cntF L 13 (sk usP L (q + 1) - (q + 1)) (q + 1) = 8
    · rw [if_pos z]
    · rw [if_neg z]; show wK (insF L _ _) = _; rw [wK_ins, if_neg (by show ¬ (decide ((13 : Nat) = 6) || decide ((13 : Nat) = 14)) = true; decide)]; rfl
theorem sealS_w (L : List PK) (q : Nat) (lb : List Nat) : wK (sealS L q lb).2 = wK L := by
  unfold sealS
  split
  · rfl
  · split
    · rfl
    · split
      · rfl
      · cases hf : findF (bdP 2 lb) L (sk (isK 2) L (q + 1) - (q + 1)) (q + 1) with
        | some i => rfl
        | none =>
          unfold sealK
          by_cases z : sk (isK 2) L (q + 1) - q - 1 = 16
          · rw [if_pos z]
          · rw [if_neg z]; show wK (insF L _ _) = _; rw [wK_ins, if_neg (by show ¬ (decide ((2 : Nat) = 6) || decide ((2 : Nat) = 14)) = true; decide)]; rfl
theorem keyOk_len {l : List Nat} {hs : Bool} (h : keyOk l hs = true) (hb : byt l) (hl : l.length ≤ 5000) : 63 ≤ l.length := by
  have h1 := keyOk_nums h hb hl
  have l1 : (kU1 l).2.1 ≤ l.length := (oneS_le (Nat.zero_le _)).1
  have l2 : (kU2 l).2.1 ≤ l.length := (someS_ok hb 4 0 0 _ l1 (by decide)).2.1
  have l3 : (kU3 l).2.1 ≤ l.length := (oneS_le l2).1
  have s4 : (kN l).length ≤ l.length := (numS_ok hb _ l3).2.2.1
  omega
/-- what reading keys may change -/
def Kj (M M' : MS) : Prop := (∀ k, k ∉ kI → k ∉ [16, 33, 41, 42, 43, 45, 47] → mI M' k = mI M k) ∧ (∀ k, k ∉ kL → mL M' k = mL M k) ∧ (∀ k, k ∉ kR → k ≠ 44 → mR M' k = mR M k) ∧ (∀ k, k ∉ kG → k ≠ 17 → k ≠ 46 → mG M' k = mG M k) ∧ (∀ k, k ≠ 18 → k ≠ 19 → mA M' k = mA M k)
theorem Kj.rfl' (M : MS) : Kj M M := ⟨fun _ _ _ => rfl, fun _ _ => rfl, fun _ _ _ => rfl, fun _ _ _ _ => rfl, fun _ _ _ => rfl⟩
theorem Kj.trans {M M' M'' : MS} (h1 : Kj M M') (h2 : Kj M' M'') : Kj M M'' := ⟨fun k a b => (h2.1 k a b).trans (h1.1 k a b), fun k a => (h2.2.1 k a).trans (h1.2.1 k a), fun k a b => (h2.2.2.1 k a b).trans (h1.2.2.1 k a b), fun k a b c => (h2.2.2.2.1 k a b c).trans (h1.2.2.2.1 k a b c), fun k a b => (h2.2.2.2.2 k a b).trans (h1.2.2.2.2 k a b)⟩
theorem Kc.kj {M M' : MS} (h : Kc M M') : Kj M M' := ⟨fun k a b => h.1 k a (fun e => b (by rw [e]; decide)) (fun e => b (by rw [e]; decide)), h.2.1, fun k a _ => h.2.2.1 k a, fun k a b _ => h.2.2.2.1 k a b, h.2.2.2.2⟩
theorem kM_kj (M : MS) (a b c d e f : Int32) (g : Option Nat) (k9 : Nat → Nat) : Kj M (kM M a b c d e f g k9) := by
  have hn : ∀ {α : Type} (f : Nat → α) (j k : Nat) (v : α) (l : List Nat), k ∉ l → j ∈ l → upN f j v k = f k := fun f j k v l h1 h2 => upN_n (fun e => h1 (e ▸ h2))
  refine ⟨fun k _ h => ?_, fun _ _ => rfl, fun k _ h => ?_, fun k _ _ h => ?_, fun _ _ _ => rfl⟩
  · exact (hn _ 47 k _ _ h (by decide)).trans ((hn _ 45 k _ _ h (by decide)).trans ((hn _ 43 k _ _ h (by decide)).trans ((hn _ 42 k _ _ h (by decide)).trans ((hn _ 41 k _ _ h (by decide)).trans (hn _ 33 k _ _ h (by decide))))))
  · exact upN_n h
  · exact upN_n h
def keysR (rw : List Nat) (L0 : List PK) : Int32 × RK := if (keysS rw (rw.length + 1) (L0, none, none, 0) 0).1 = 0 ∧ (keysS rw (rw.length + 1) (L0, none, none, 0) 0).2.2.2.2 = 0 then (-1 - nI rw.length, (keysS rw (rw.length + 1) (L0, none, none, 0) 0).2) else keysS rw (rw.length + 1) (L0, none, none, 0) 0
