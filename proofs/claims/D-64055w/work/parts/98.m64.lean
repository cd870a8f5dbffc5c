set_option maxRecDepth 100000

theorem n_orN {a b k : Nat} (ha : a < 2 ^ k) (h : b * 2 ^ k + a < 4294967296) : nI a ||| nI (b * 2 ^ k) = nI (b * 2 ^ k + a) := by
  apply Int32.toBitVec_inj.mp
  rw [Int32.toBitVec_or]
  apply BitVec.eq_of_toNat_eq
  rw [BitVec.toNat_or]
  show (BitVec.ofNat 32 a).toNat ||| (BitVec.ofNat 32 (b * 2 ^ k)).toNat = (BitVec.ofNat 32 (b * 2 ^ k + a)).toNat
  rw [BitVec.toNat_ofNat, BitVec.toNat_ofNat, BitVec.toNat_ofNat, Nat.mod_eq_of_lt (show a < 2 ^ 32 by omega), Nat.mod_eq_of_lt (show b * 2 ^ k < 2 ^ 32 by omega), Nat.mod_eq_of_lt (show b * 2 ^ k + a < 2 ^ 32 by omega), Nat.mul_comm, Nat.two_pow_add_eq_or_of_lt ha, Nat.or_comm]
theorem s_mod : ∀ k, k < 32 → ((nI k &&& 31).toBitVec.smod 32).toNat = k := by decide +kernel
theorem shl_N {a k : Nat} (hk : k < 32) (h : a * 2 ^ k < 4294967296) : shl (nI a) (nI k) = nI (a * 2 ^ k) := pk_shlN _ k (s_mod k hk) h
/-- the byte at place i from the right -/
def bY (lb : List Nat) (i : Nat) : Nat := if i < lb.length then gD lb (lb.length - 1 - i) else 0
def dgF (lb : List Nat) (j : Nat) : Nat := bY lb (2 * j) + 256 * bY lb (2 * j + 1)
def rdF (lb : List Nat) (i : Nat) : Nat → Nat := fun j => (if 2 * j < i then bY lb (2 * j) else 0) + 256 * (if 2 * j + 1 < i then bY lb (2 * j + 1) else 0)
theorem bY_lt {lb : List Nat} (h : byt lb) (i : Nat) : bY lb i < 256 := by
  unfold bY
  split
  · exact byt_gD h _
  · decide
theorem dgF_lt {lb : List Nat} (h : byt lb) (i : Nat) : dgF lb i < 65536 := by
  have h1 := bY_lt h (2 * i)
  have h2 := bY_lt h (2 * i + 1)
  unfold dgF
  omega
theorem rd_step {lb : List Nat} {i : Nat} (hb : byt lb) (hi : i < lb.length) : nI (rdF lb i (i / 2)) ||| shl (nI (gD lb (lb.length - 1 - i))) (nI (8 * (i % 2))) = nI (rdF lb (i + 1) (i / 2)) := by
  have e0 : gD lb (lb.length - 1 - i) = bY lb i := by unfold bY; rw [if_pos hi]
  rw [e0]
  have h1 := bY_lt hb i
  rcases (show i % 2 = 0 ∨ i % 2 = 1 by omega) with q | q
  · have e1 : rdF lb i (i / 2) = 0 := by unfold rdF; rw [if_neg (by omega), if_neg (by omega)]
    have e2 : rdF lb (i + 1) (i / 2) = bY lb i := by
      unfold rdF; rw [if_pos (by omega), if_neg (by omega), show 2 * (i / 2) = i by omega]; omega
    rw [e1, e2, q, shl_N (by omega) (by omega), n_orN (k := 8 * 0) (by omega) (by omega)]
    congr 1; omega
  · have e1 : rdF lb i (i / 2) = bY lb (2 * (i / 2)) := by unfold rdF; rw [if_pos (by omega), if_neg (by omega)]; omega
    have e2 : rdF lb (i + 1) (i / 2) = bY lb (2 * (i / 2)) + 256 * bY lb i := by
      unfold rdF; rw [if_pos (by omega), if_pos (by omega), show 2 * (i / 2) + 1 = i by omega]
    have h2 := bY_lt hb (2 * (i / 2))
    rw [e1, e2, q, shl_N (by omega) (by omega), n_orN (k := 8 * 1) (by omega) (by omega)]
    congr 1; omega
theorem rd_up {lb : List Nat} {i : Nat} : upN (rdF lb i) (i / 2) (rdF lb (i + 1) (i / 2)) = rdF lb (i + 1) := by
  funext j
  rw [upN_if]
  split
  · next q => rw [q]
  · next q =>
    unfold rdF
    have a1 : (2 * j < i) = (2 * j < i + 1) := propext ⟨fun z => by omega, fun z => by omega⟩
    have a2 : (2 * j + 1 < i) = (2 * j + 1 < i + 1) := propext ⟨fun z => by omega, fun z => by omega⟩
    simp only [a1, a2]
theorem rd_end {lb : List Nat} {i na : Nat} (h : lb.length ≤ i ∨ 2 * na ≤ i) : ∀ j, j < na → rdF lb i j = dgF lb j := by
  intro j hj
  unfold rdF dgF
  have z : ∀ k, k < 2 * na → (if k < i then bY lb k else 0) = bY lb k := by
    intro k hk
    split
    · rfl
    · next q => unfold bY; rw [if_neg (by omega)]
  rw [z _ (by omega), z _ (by omega)]

set_option maxHeartbeats 400000 in
set_option maxRecDepth 100000 in
theorem c6_read (l : Launch) (D : va_G) (dA : Nat → ClassId) (B : Nat) (Z : State → Prop) (hZ : Stab B Z) (F : va_W) (ar na ba : Nat) (g : Nat → Nat) (lb : List Nat) (hba : (ba, bal dA lb) ∈ F) (hlb : byt lb) (h1 : na < 1000000) (h2 : lb.length < 1000000) :
    Ct (S := Unit) l D dA B Z yX6_read cX6_read 3 none 2 0 0 [.ref ba, .ref ar] ([(ar, iar dA na g)] ++ F) (fun _ => True) (fun _ => none) (fun _ => [(ar, iar dA na (dgF lb))] ++ F) := by
  refine Ct.mk2 (by decide) (Nat.le_of_ble_eq_true rfl) hZ ?_
  intro p e R s m args below meth c ls Q C hr hlocks hin hQ hl h
  have C0 := C
  obtain ⟨hx, hb, hml, hown, hts, -⟩ := C0
  have hl : lv_has ls 3 [(0, .ref ba), (1, .ref ar)] := hl
  refine lv_aload_n hx hb dX6_read_0 rfl (lv_at hl 1 rfl) ?_
  refine lv_iconst (v := nI 0) hx hb dX6_read_1 (by decide) ?_
  refine call_S (As := [.ref ar, .int (nI 0)]) (rest := []) (n := 2) C h (cJ_fillI l D dA B Z hZ F ar na 0 g h1) (lw_S q1597 q1598 q143 q1599) (by decide +kernel) (by decide) (by decide) rfl hl rfl (Nat.le_of_ble_eq_true rfl) dX6_read_2 (by omega) (fun _ H locs _ h => ?_)
  have h : Wd D B s ([(ar, iar dA na (fun _ => 0))] ++ F) H locs := h.permL (perm_add (fun g f p0 p1 p2 => by (try simp only [p0, p1, p2]) <;> omega))
  refine lv_iconst (v := nI 0) hx hb dX6_read_5 (by decide) ?_
  refine lv_istore_n (lv' := [(2, .int (nI 0)), (0, .ref ba), (1, .ref ar)]) hx hb dX6_read_6 rfl hl (by decide) rfl (fun ls hl => ?_)
  have h : Wd D B s ([(ar, iar dA na (rdF lb 0))] ++ F) H locs := Wd.same h 0 rfl (iar_same (fun j hj => by unfold rdF; rw [if_neg (by omega), if_neg (by omega)])) rfl
  have loop : ∀ (nn : Nat) (i : Nat), (i ≤ lb.length) → lb.length - i < nn → ∀ (H : Heap) (locs : List Loc), Wd D B s ([(ar, iar dA na (rdF lb i))] ++ F) H locs → ∀ (ls : Array Slot), lv_has ls 3 [(2, .int (nI i)), (0, .ref ba), (1, .ref ar)] → W p l e R s m args below meth c H locs (0 + 0) (0 + 0) Q (F0 m 7 ls []) := by
    intro nn
    induction nn with
    | zero => intro i  hi0 hme; exact absurd hme (Nat.not_lt_zero _)
    | succ nn ih =>
      intro i  hi0 hme H locs h ls hl
      refine lv_iload_n hx hb dX6_read_7 rfl (lv_at hl 0 rfl) ?_
      refine lv_aload_n hx hb dX6_read_8 rfl (lv_at hl 1 rfl) ?_
      refine n_balen C h (List.mem_append_right _ hba) dX6_read_9 ?_
      refine n_icmp_ge (tgt := 54) hx hb (by omega) (by omega) dX6_read_10 (by decide) (fun c10 => ?_) (fun c10 => ?_)
      · subst hQ
        have h : Wd D B s ([(ar, iar dA na (dgF lb))] ++ F) H locs := Wd.same h 0 rfl (iar_same (rd_end (by omega))) rfl
        exact ret_v C hr hlocks h () trivial rfl rfl (by omega) (by omega) dX6_read_54
      · refine lv_iload_n hx hb dX6_read_13 rfl (lv_at hl 0 rfl) ?_
        refine lv_iconst (v := nI 2) hx hb dX6_read_14 (by decide) ?_
        refine lv_aload_n hx hb dX6_read_15 rfl (lv_at hl 2 rfl) ?_
        refine n_alen C h (List.mem_of_getElem? (i := 0) rfl) dX6_read_16 ?_
        refine lv_imul hx hb dX6_read_17 (n_top (y := nI (2 * na)) (pk_mul 2 na) ?_)
        refine n_icmp_ge (tgt := 54) hx hb (by omega) (by omega) dX6_read_18 (by decide) (fun c18 => ?_) (fun c18 => ?_)
        · subst hQ
          have h : Wd D B s ([(ar, iar dA na (dgF lb))] ++ F) H locs := Wd.same h 0 rfl (iar_same (rd_end (by omega))) rfl
          exact ret_v C hr hlocks h () trivial rfl rfl (by omega) (by omega) dX6_read_54
        · refine lv_aload_n hx hb dX6_read_21 rfl (lv_at hl 2 rfl) ?_
          refine lv_iload_n hx hb dX6_read_22 rfl (lv_at hl 0 rfl) ?_
          refine lv_iconst (v := nI 2) hx hb dX6_read_23 (by decide) ?_
          refine lv_idiv hx hb dX6_read_24 (by decide) (n_top (y := nI (i / 2)) (pk_div (by omega) (by omega) (by omega)) ?_)
          refine lv_dup2_11 hx hb dX6_read_25 rfl rfl ?_
          refine n_iald C h (v := (rdF lb i) (i / 2)) (List.mem_of_getElem? (i := 0) rfl) (show i / 2 < na by omega) (by omega) rfl dX6_read_26 ?_
          refine lv_aload_n hx hb dX6_read_27 rfl (lv_at hl 1 rfl) ?_
          refine lv_aload_n hx hb dX6_read_28 rfl (lv_at hl 1 rfl) ?_
          refine n_balen C h (List.mem_append_right _ hba) dX6_read_29 ?_
          refine lv_iconst (v := nI 1) hx hb dX6_read_30 (by decide) ?_
          refine lv_isub hx hb dX6_read_31 (n_top (y := nI (lb.length - 1)) (pk_sub (by omega)) ?_)
          refine lv_iload_n hx hb dX6_read_32 rfl (lv_at hl 0 rfl) ?_
          refine lv_isub hx hb dX6_read_33 (n_top (y := nI ((lb.length - 1) - i)) (pk_sub (by omega)) ?_)
          refine n_bald C h (v := (gD lb) ((lb.length - 1) - i)) (List.mem_append_right _ hba) (show (lb.length - 1) - i < lb.length by omega) (by omega) rfl dX6_read_34 ?_
          refine lv_sipush (v := nI 255) hx hb dX6_read_35 (by decide) ?_
          refine lv_iand hx hb dX6_read_38 ?_
          refine n_top (y := nI (gD lb (lb.length - 1 - i))) ((sb_byte _ (byt_gD hlb _)).1) ?_
          refine lv_bipush (v := nI 8) hx hb dX6_read_39 (by decide) ?_
          refine lv_iload_n hx hb dX6_read_41 rfl (lv_at hl 0 rfl) ?_
          refine lv_iconst (v := nI 2) hx hb dX6_read_42 (by decide) ?_
          refine lv_irem hx hb dX6_read_43 (by decide) (n_top (y := nI (i % 2)) (pk_rem (by omega) (by omega) (by omega)) ?_)
          refine lv_imul hx hb dX6_read_44 (n_top (y := nI (8 * (i % 2))) (pk_mul 8 (i % 2)) ?_)
          refine n_ishl hx hb dX6_read_45 ?_
          refine lv_ior hx hb dX6_read_46 ?_
          refine n_top (y := nI (rdF lb (i + 1) (i / 2))) (rd_step hlb (by omega)) ?_
          refine x_iast C h 0 (v := rdF lb (i + 1) (i / 2)) (ws' := [(ar, iar dA na (upN (rdF lb i) (i / 2) (rdF lb (i + 1) (i / 2))))] ++ F) rfl (by omega) (by omega) rfl dX6_read_47 (fun H locs h => ?_)
          rw [rd_up] at h
          have h : Wd D B s ([(ar, iar dA na (rdF lb (i + 1)))] ++ F) H locs := h
          refine lv_iinc (v := nI (i + 1)) (lv' := [(2, .int (nI (i + 1))), (0, .ref ba), (1, .ref ar)]) hx hb dX6_read_48 hl (k := 0) rfl (nI_add i 1) (by decide) rfl (fun ls hl => ?_)
          refine lv_goto (tgt := 7) hx hb dX6_read_51 (by decide) ?_
          exact ih (i + 1) (by omega) (by omega) _ _ h _ (lv_sub hl [0, 1, 2] rfl)
  exact loop _ 0 (by omega) (Nat.lt_succ_self _) _ _ h _ (lv_sub hl [0, 1, 2] rfl)
