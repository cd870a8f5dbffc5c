set_option maxRecDepth 100000
/-! rows of bytes, as lists -/
def appG (G : Nat → Nat) (n : Nat) (l : List Nat) : Nat → Nat := fun j => if j < n then G j else (l[j - n]?).getD (G j)
/-- so many from a place on -/
def sl (g : Nat → Nat) (a n : Nat) : List Nat := (List.range n).map (fun j => g (a + j))
theorem sl_len (g : Nat → Nat) (a n : Nat) : (sl g a n).length = n := by simp [sl]
theorem sl_0 (g : Nat → Nat) (a : Nat) : sl g a 0 = [] := rfl
theorem sl_succ (g : Nat → Nat) (a n : Nat) : sl g a (n + 1) = sl g a n ++ [g (a + n)] := by
  simp [sl, List.range_succ]
theorem sl_get {g : Nat → Nat} {a n i : Nat} (h : i < n) : (sl g a n)[i]? = some (g (a + i)) := by
  simp [sl, h]
theorem sl_getD {g : Nat → Nat} {a n i : Nat} (h : i < n) : (sl g a n).getD i 0 = g (a + i) := by
  rw [List.getD_eq_getElem?_getD, sl_get h]; rfl
theorem sl_congr {g f : Nat → Nat} {a b n : Nat} (h : ∀ j, j < n → g (a + j) = f (b + j)) : sl g a n = sl f b n := by
  apply List.ext_getElem?
  intro i
  by_cases hi : i < n
  · rw [sl_get hi, sl_get hi, h i hi]
  · rw [List.getElem?_eq_none_iff.mpr (by rw [sl_len]; omega), List.getElem?_eq_none_iff.mpr (by rw [sl_len]; omega)]
theorem sl_add (g : Nat → Nat) (a n k : Nat) : sl g a (n + k) = sl g a n ++ sl g (a + n) k := by
  induction k with
  | zero => simp [sl_0]
  | succ k ih => rw [← Nat.add_assoc, sl_succ, ih, sl_succ, List.append_assoc, Nat.add_assoc]
theorem appG_nil (G : Nat → Nat) (n : Nat) : appG G n [] = G := by
  funext j
  simp [appG]
theorem appG_one (G : Nat → Nat) (n b : Nat) : upN G n b = appG G n [b] := by
  funext j
  rw [upN_if]
  unfold appG
  by_cases h : j < n
  · rw [if_pos h, if_neg (by omega)]
  · rw [if_neg h]
    by_cases h2 : j = n
    · subst h2; simp
    · rw [if_neg h2, List.getElem?_eq_none_iff.mpr (by simp; omega)]; rfl
theorem appG_app (G : Nat → Nat) (n : Nat) (l k : List Nat) : appG (appG G n l) (n + l.length) k = appG G n (l ++ k) := by
  funext j
  unfold appG
  by_cases h : j < n
  · rw [if_pos (by omega), if_pos h, if_pos h]
  · rw [if_neg h, if_neg h]
    by_cases h2 : j < n + l.length
    · rw [if_pos h2, List.getElem?_append_left (by omega)]
    · rw [if_neg h2, List.getElem?_append_right (by omega), List.getElem?_eq_none_iff.mpr (show l.length ≤ j - n by omega)]
      rw [Nat.sub_sub]; rfl
theorem appG_lt {G : Nat → Nat} {n : Nat} {l : List Nat} {j : Nat} (h : j < n) : appG G n l j = G j := by unfold appG; rw [if_pos h]
theorem appG_in {G : Nat → Nat} {n : Nat} {l : List Nat} {j : Nat} (h : j < l.length) : appG G n l (n + j) = l.getD j 0 := by
  unfold appG
  rw [if_neg (by omega), show n + j - n = j by omega, List.getD_eq_getElem?_getD, List.getElem?_eq_getElem h]; rfl
theorem sl_appG (G : Nat → Nat) (n : Nat) (l : List Nat) : sl (appG G n l) 0 (n + l.length) = sl G 0 n ++ l := by
  rw [sl_add]
  congr 1
  · exact sl_congr fun j hj => appG_lt (by omega)
  · apply List.ext_getElem?
    intro i
    by_cases hi : i < l.length
    · rw [sl_get hi, Nat.zero_add, appG_in hi, List.getD_eq_getElem?_getD, List.getElem?_eq_getElem hi]; rfl
    · rw [List.getElem?_eq_none_iff.mpr (by rw [sl_len]; omega), List.getElem?_eq_none_iff.mpr (by omega)]
theorem upN_upN {α : Type} (f : Nat → α) (k : Nat) (v w : α) : upN (upN f k v) k w = upN f k w := by
  funext j
  rw [upN_if, upN_if, upN_if]
  split <;> rfl
theorem upN_same {α : Type} (f : Nat → α) (k : Nat) (v : α) (h : f k = v) : upN f k v = f := by
  funext j
  rw [upN_if]
  split
  · next e => rw [e, h]
  · rfl
theorem upN_comm {α : Type} (f : Nat → α) {k j : Nat} (v w : α) (h : k ≠ j) : upN (upN f k v) j w = upN (upN f j w) k v := by
  funext i
  rw [upN_if, upN_if, upN_if, upN_if]
  by_cases h1 : i = j
  · rw [if_pos h1, if_neg (by omega), if_pos h1]
  · rw [if_neg h1, if_neg h1]
/-- a row with its count grows by l -/
def apM (M : MS) (a k n : Nat) (l : List Nat) : MS := sI (sG M a (appG (mG M a) n l)) k (nI (n + l.length))
theorem MS.ext {M N : MS} (h1 : M.1 = N.1) (h2 : M.2.1 = N.2.1) (h3 : M.2.2.1 = N.2.2.1) (h4 : M.2.2.2.1 = N.2.2.2.1) (h5 : M.2.2.2.2.1 = N.2.2.2.2.1) (h6 : M.2.2.2.2.2 = N.2.2.2.2.2) : M = N :=
  Prod.ext h1 (Prod.ext h2 (Prod.ext h3 (Prod.ext h4 (Prod.ext h5 h6))))
theorem apM_nil {M : MS} {a k n : Nat} (h : mI M k = nI n) : apM M a k n [] = M :=
  MS.ext (upN_same _ _ _ h) rfl rfl (upN_same _ _ _ (appG_nil _ _).symm) rfl rfl
theorem apM_one (M : MS) (a k n b : Nat) : sI (sG M a (upN (mG M a) n b)) k (nI (n + 1)) = apM M a k n [b] := by
  unfold apM; rw [appG_one]; rfl
theorem apM_app (M : MS) (a k n : Nat) (l l' : List Nat) : apM (apM M a k n l) a k (n + l.length) l' = apM M a k n (l ++ l') := by
  refine MS.ext ?_ rfl rfl ?_ rfl rfl
  · show upN (upN M.1 k _) k _ = upN M.1 k _
    rw [upN_upN, List.length_append, Nat.add_assoc]
  · show upN (upN M.2.2.2.1 a (appG (mG M a) n l)) a (appG (upN M.2.2.2.1 a (appG (mG M a) n l) a) (n + l.length) l') = upN M.2.2.2.1 a (appG (mG M a) n (l ++ l'))
    rw [upN_upN, upN_s, appG_app]
theorem n_dec {a : Nat} (h : 1 ≤ a) : nI a + Int32.ofInt (-1) = nI (a - 1) := by
  obtain ⟨b, rfl⟩ : ∃ b, a = b + 1 := ⟨a - 1, by omega⟩
  exact pk_m1 b
theorem mw_memW {k : Nat} (hk : k ∈ mkW) {dA : Nat → ClassId} {h0 : Nat} {ad : Nat → Nat} {M : MS} {F : va_W} : (ad k, war dA (mlen k) (mW M k)) ∈ mw dA h0 ad M ++ F := by
  obtain ⟨q0, hq⟩ := mw_W hk
  exact List.mem_of_getElem? (hq dA h0 ad M F).1
theorem mw_memL {k : Nat} (hk : k ∈ mkL) {dA : Nat → ClassId} {h0 : Nat} {ad : Nat → Nat} {M : MS} {F : va_W} : (ad k, lar dA (mlen k) (mG M k)) ∈ mw dA h0 ad M ++ F := by
  obtain ⟨q0, hq⟩ := mw_L hk
  exact List.mem_of_getElem? (hq dA h0 ad M F).1
theorem mw_memA {k : Nat} (hk : k ∈ mkA) {dA : Nat → ClassId} {h0 : Nat} {ad : Nat → Nat} {M : MS} {F : va_W} : (ad k, aar dA (mlen k) (mA M k)) ∈ mw dA h0 ad M ++ F := by
  obtain ⟨q0, hq⟩ := mw_A hk
  exact List.mem_of_getElem? (hq dA h0 ad M F).1
theorem mw_memZ {dA : Nat → ClassId} {h0 : Nat} {ad : Nat → Nat} {M : MS} {F : va_W} : (ad 70, zar dA 3 (mG M 70)) ∈ mw dA h0 ad M ++ F := List.mem_of_getElem? (i := 21) rfl
theorem mem_last {α : Type} (X Y : List α) {F : List α} {x : α} : x ∈ Y ++ (F ++ [x]) := List.mem_append_right _ (List.mem_append_right _ List.mem_cons_self)
/-! longs -/
theorem l_andN {a b k : Nat} (h : a < 18446744073709551616) (hb : b + 1 = 2 ^ k ∧ k < 64) : lN a &&& lN b = lN (a % (b + 1)) := by
  have : b = 2 ^ k - 1 := by omega
  rw [this, wb_mask h hb.2]
  congr 1
  have h1 := hb.1
  rw [show 2 ^ k - 1 + 1 = 2 ^ k by omega]
theorem l_ushrN {a k : Nat} (h : a < 18446744073709551616) (hk : k < 64) : lushr (lN a) (nI k) = lN (a / 2 ^ k) := wb_shr h hk
theorem l_shlN {a k : Nat} (hk : k < 64) : lshl (lN a) (nI k) = lN (a * 2 ^ k) := wb_shl a hk
theorem l_shrN {a k : Nat} (h : a < 4611686018427387904) (hk : k < 64) : lshr (lN a) (nI k) = lN (a / 2 ^ k) := by
  unfold lshr
  refine pf_shr ?_ h
  rw [wb_c k hk, wb_tb, wb_sm k hk, BitVec.toNat_ofNat]
  omega
theorem and255 {b : Nat} (h : b < 256) : nI b &&& nI 255 = nI b := by
  rw [pk_andN (by omega) 8 (by decide), Nat.mod_eq_of_lt h]
def be (n v : Nat) : List Nat := sl (fun j => v / 2 ^ (8 * (n - 1 - j)) % 256) 0 n
def num (l : List Nat) : Nat := l.foldl (fun v b => v * 256 + b) 0
def rotl (x y : Int32) : Int32 := shl x y ||| ushr x (nI 32 - y)
def uI (x : Int32) : Nat := x.toBitVec.toNat
def ial (dA : Nat → ClassId) (l : List Nat) : va_E := iar dA l.length (fun j => l.getD j 0)
theorem appG_0 (l : List Nat) : appG (fun _ => 0) 0 l = fun j => l.getD j 0 := by
  funext j
  unfold appG
  rw [if_neg (by omega), Nat.sub_zero, List.getD_eq_getElem?_getD]
section LA
variable {p : Program} {l : Launch} {e : Env} {R : Room} {s : State} {m : MethodId} {args : Array Value} {below : List Frame} {meth : Method} {c : Code} {H : Heap} {locs : List Loc} {cells slots : Nat} {Q : State → Prop} {cc : ByteArray} {pc : Nat} {ls : Array Slot} {rest : List Value}
variable {nL : Nat} {own : String} {D : va_G} {dA : Nat → ClassId} {B : Nat} {Z : State → Prop} {d mc ms : Nat} {ws F : va_W}
theorem n_iastL {a n i v : Nat} {g : Nat → Nat} (C : Cx p R s m args c cc nL own D dA B Z d mc ms) (h : Wd D B s (ws ++ [(a, iar dA n g)]) H locs) (hi : i < n) (hn : n < 2147483648) (hdg : decode cc pc = .ok (.iastore, 1))
    (kk : ∀ (H1 : Heap) (locs1 : List Loc), Wd D B s (ws ++ [(a, iar dA n (upN g i v))]) H1 locs1 → W p l e R s m args below meth c H1 locs1 cells slots Q (F0 m (pc + 1) ls rest)) : W p l e R s m args below meth c H locs cells slots Q (F0 m pc ls (.int (nI v) :: .int (nI i) :: .ref a :: rest)) := by
  obtain ⟨hx, hb, hml, hown, hts, hK, hN, hz, hZ, hB, hRf, hRl, hRc, hRs⟩ := C
  have hcl : (nI i).toNatClampNeg = i := nI_clamp (Nat.lt_trans hi hn)
  refine va_iast hx hb hK h.1 h.2.1 h.2.2 ws.length 0 (f := fun j => nI (g j)) (by rw [List.getElem?_append_right (Nat.le_refl _), Nat.sub_self]; rfl) rfl (vp_in_nI hi hn) hdg (fun H1 locs1 hP hD hS => kk H1 locs1 ?_)
  rw [hcl, upN_upd, upN_map nI, List.set_append_right _ _ (Nat.le_refl _), Nat.sub_self] at hP hD
  exact ⟨hP, hD, hS⟩
end LA
theorem n_m1 (x : Int32) : x + Int32.ofInt (-1) = x - nI 1 := by
  rw [Int32.sub_eq_add_neg]
  exact congrArg (fun z => x + z) (by decide)
theorem sl_ne_len {f g : Nat → Nat} {a b n1 n2 : Nat} (h : ¬ n1 = n2) : sl f a n1 ≠ sl g b n2 := fun q => h (by have := congrArg List.length q; rwa [sl_len, sl_len] at this)
theorem sl_ne_at {f g : Nat → Nat} {a b n1 n2 i : Nat} (h1 : i < n1) (h2 : i < n2) (h : ¬ f (a + i) = g (b + i)) : sl f a n1 ≠ sl g b n2 := fun q => h (by
  have := congrArg (fun l => l[i]?) q
  simp only [sl_get h1, sl_get h2] at this
  exact Option.some.inj this)
theorem num_snoc (l : List Nat) (b : Nat) : num (l ++ [b]) = num l * 256 + b := by simp [num]
/-- a message's end -/
def padz (n : Nat) : Nat := (119 - n % 64) % 64
def pad (n : Nat) : List Nat := 128 :: (List.replicate (padz n) 0 ++ be 8 (8 * n))
theorem padz_lt (n : Nat) : padz n < 64 := Nat.mod_lt _ (by decide)
theorem padz_eq (n : Nat) : (n + 1 + padz n) % 64 = 56 := by unfold padz; omega
theorem pad_lt {n i : Nat} (h : i ≤ padz n) (c : (n + 1 + i) % 64 ≠ 56) : i + 1 ≤ padz n := by
  have := padz_eq n
  rcases Nat.lt_or_ge i (padz n) with q | q
  · exact q
  · exact absurd (by rw [show i = padz n by omega]; exact this) c
theorem pad_end {n i : Nat} (h : i ≤ padz n) (c : (n + 1 + i) % 64 = 56) : i = padz n := by unfold padz at *; omega
theorem be_len (n v : Nat) : (be n v).length = n := sl_len _ _ _
theorem pad_len (n : Nat) : (pad n).length = padz n + 9 ∧ padz n < 64 := by
  refine ⟨?_, padz_lt n⟩
  unfold pad
  rw [List.length_cons, List.length_append, List.length_replicate, be_len]
theorem sG_id (M : MS) (k : Nat) : sG M k (mG M k) = M := MS.ext rfl rfl rfl (upN_same _ _ _ rfl) rfl rfl
theorem sG_sG (M : MS) (k : Nat) (f g : Nat → Nat) : sG (sG M k f) k g = sG M k g := MS.ext rfl rfl rfl (upN_upN _ _ _ _) rfl rfl
theorem w4_byte (x : Int32) {i : Nat} (hi : i < 4) : ushr x (nI (24 - 8 * i)) &&& nI 255 = nI (uI x / 2 ^ (8 * (4 - 1 - i)) % 256) := by
  rw [pk_and _ 8 (by decide)]
  congr 2
  have hk : 24 - 8 * i < 32 := by omega
  rw [show 8 * (4 - 1 - i) = 24 - 8 * i by omega]
  exact pk_ushr x (nI (24 - 8 * i)) (24 - 8 * i) (s_u _ hk)
theorem sW_id {M : MS} {k : Nat} : sW M k (mW M k) = M := MS.ext rfl rfl rfl rfl (upN_same _ _ _ rfl) rfl
