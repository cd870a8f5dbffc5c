set_option maxRecDepth 100000

def cU (sh : Nat) (g : Nat → Nat) : Nat → Nat
  | 0 => 0
  | i + 1 => (g i * 2 ^ sh + cU sh g i) / 65536
def upD (sh : Nat) (g : Nat → Nat) (i : Nat) : Nat := (g i * 2 ^ sh + cU sh g i) % 65536
theorem cU_lt {sh : Nat} {g : Nat → Nat} : ∀ i, (∀ j, j < i → g j < 65536) → cU sh g i < 2 ^ sh
  | 0, _ => Nat.two_pow_pos sh
  | i + 1, h => by
    have h1 := cU_lt (sh := sh) i (fun j hj => h j (by omega))
    have h2 : g i * 2 ^ sh ≤ 65535 * 2 ^ sh := Nat.mul_le_mul_right _ (by have := h i (by omega); omega)
    show (g i * 2 ^ sh + cU sh g i) / 65536 < 2 ^ sh
    rw [Nat.div_lt_iff_lt_mul (by decide)]
    omega
/-- the number whose digits are g -/
def dval (g : Nat → Nat) : Nat → Nat
  | 0 => 0
  | i + 1 => dval g i + g i * 65536 ^ i
theorem up_dval (sh : Nat) (g : Nat → Nat) : ∀ n, dval (upD sh g) n + cU sh g n * 65536 ^ n = dval g n * 2 ^ sh
  | 0 => by show 0 + 0 * _ = 0 * _; rw [Nat.zero_mul, Nat.zero_mul]
  | n + 1 => by
    have ih := up_dval sh g n
    show dval (upD sh g) n + upD sh g n * 65536 ^ n + cU sh g (n + 1) * 65536 ^ (n + 1) = (dval g n + g n * 65536 ^ n) * 2 ^ sh
    have e : upD sh g n + 65536 * cU sh g (n + 1) = g n * 2 ^ sh + cU sh g n := by
      show (g n * 2 ^ sh + cU sh g n) % 65536 + 65536 * ((g n * 2 ^ sh + cU sh g n) / 65536) = _
      exact Nat.mod_add_div _ _
    calc dval (upD sh g) n + upD sh g n * 65536 ^ n + cU sh g (n + 1) * 65536 ^ (n + 1)
        = dval (upD sh g) n + (upD sh g n + 65536 * cU sh g (n + 1)) * 65536 ^ n := by rw [Nat.pow_succ, Nat.add_mul, Nat.add_assoc, Nat.mul_comm (65536 ^ n) 65536, ← Nat.mul_assoc, Nat.mul_comm (cU sh g (n + 1)) 65536]
      _ = dval (upD sh g) n + (g n * 2 ^ sh + cU sh g n) * 65536 ^ n := by rw [e]
      _ = dval g n * 2 ^ sh + g n * 2 ^ sh * 65536 ^ n := by rw [← ih, Nat.add_mul]; omega
      _ = (dval g n + g n * 65536 ^ n) * 2 ^ sh := by rw [Nat.add_mul, Nat.mul_right_comm]
theorem dval_cg {f g : Nat → Nat} : ∀ n, (∀ j, j < n → f j = g j) → dval f n = dval g n
  | 0, _ => rfl
  | n + 1, h => by show dval f n + _ = dval g n + _; rw [dval_cg n (fun j hj => h j (by omega)), h n (by omega)]

set_option maxHeartbeats 400000 in
set_option maxRecDepth 100000 in
theorem c6_up (l : Launch) (D : va_G) (dA : Nat → ClassId) (B : Nat) (Z : State → Prop) (hZ : Stab B Z) (F : va_W) (po ar na n m9 b9 r9 p9 dg sh : Nat) (g : Nat → Nat) (hpo : (po, .inr (4, [.ref m9, .ref b9, .ref r9, .ref p9, .int (nI dg), .int (nI sh)])) ∈ F) (h1 : na < 1000000) (hn : n < na) (hs : sh < 16) (hg : ∀ j, j < n → g j < 65536) :
    Ct (S := Unit) l D dA B Z yX6_up cX6_up 6 none 1 0 0 [.ref po, .ref ar, .int (nI n)] ([(ar, iar dA na g)] ++ F) (fun _ => True) (fun _ => none) (fun _ => [(ar, iar dA na (upN (mixF n (upD sh g) g) n (cU sh g n)))] ++ F) := by
  refine Ct.mk2 (by decide) (Nat.le_of_ble_eq_true rfl) hZ ?_
  intro p e R s m args below meth c ls Q C hr hlocks hin hQ hl h
  have C0 := C
  obtain ⟨hx, hb, hml, hown, hts, -⟩ := C0
  have hl : lv_has ls 6 [(0, .ref po), (1, .ref ar), (2, .int (nI n))] := hl
  have hsp : 2 ^ sh ≤ 32768 := Nat.pow_le_pow_right (by decide) (show sh ≤ 15 by omega)
  refine lv_iconst (v := nI 0) hx hb dX6_up_0 (by decide) ?_
  refine lv_istore_n (lv' := [(3, .int (nI 0)), (0, .ref po), (1, .ref ar), (2, .int (nI n))]) hx hb dX6_up_1 rfl hl (by decide) rfl (fun ls hl => ?_)
  refine lv_iconst (v := nI 0) hx hb dX6_up_2 (by decide) ?_
  refine lv_istore (lv' := [(4, .int (nI 0)), (3, .int (nI 0)), (0, .ref po), (1, .ref ar), (2, .int (nI n))]) hx hb dX6_up_3 hl (by decide) rfl (fun ls hl => ?_)
  have h : Wd D B s ([(ar, iar dA na (mixF 0 (upD sh g) g))] ++ F) s.heap [] := by rw [mixF_0]; exact h
  have hl : lv_has ls 6 [(4, .int (nI 0)), (3, .int (nI (cU sh g 0))), (0, .ref po), (1, .ref ar), (2, .int (nI n))] := hl
  have loop : ∀ (nn : Nat) (i : Nat), (i ≤ n) → n - i < nn → ∀ (H : Heap) (locs : List Loc), Wd D B s ([(ar, iar dA na (mixF i (upD sh g) g))] ++ F) H locs → ∀ (ls : Array Slot), lv_has ls 6 [(4, .int (nI i)), (3, .int (nI (cU sh g i))), (2, .int (nI n)), (0, .ref po), (1, .ref ar)] → W p l e R s m args below meth c H locs 0 0 Q (F0 m 5 ls []) := by
    intro nn
    induction nn with
    | zero => intro i  hi0 hme; exact absurd hme (Nat.not_lt_zero _)
    | succ nn ih =>
      intro i  hi0 hme H locs h ls hl
      refine lv_iload hx hb dX6_up_5 (lv_at hl 0 rfl) ?_
      refine lv_iload_n hx hb dX6_up_7 rfl (lv_at hl 2 rfl) ?_
      refine n_icmp_ge (tgt := 45) hx hb (by omega) (by omega) dX6_up_8 (by decide) (fun c8 => ?_) (fun c8 => ?_)
      · have hin : i = n := by omega
        rw [hin] at h hl
        have h : Wd D B s ([(ar, iar dA na (mixF n (upD sh g) g))] ++ F) H locs := h
        have hl : lv_has ls 6 [(3, .int (nI (cU sh g n))), (2, .int (nI n)), (0, .ref po), (1, .ref ar)] := lv_sub hl [1, 2, 3, 4] rfl
        refine lv_iload_n hx hb dX6_up_45 rfl (lv_at hl 1 rfl) ?_
        refine lv_aload_n hx hb dX6_up_46 rfl (lv_at hl 3 rfl) ?_
        refine n_alen C h (List.mem_of_getElem? (i := 0) rfl) dX6_up_47 ?_
        refine n_icmp_ge (tgt := 55) hx hb (by omega) (by omega) dX6_up_48 (by decide) (fun c48 => ?_) (fun c48 => ?_)
        · subst hQ
          exact absurd hn (by omega)
        · refine lv_aload_n hx hb dX6_up_51 rfl (lv_at hl 3 rfl) ?_
          refine lv_iload_n hx hb dX6_up_52 rfl (lv_at hl 1 rfl) ?_
          refine lv_iload_n hx hb dX6_up_53 rfl (lv_at hl 0 rfl) ?_
          refine x_iast C h 0 (v := cU sh g n) (ws' := [(ar, iar dA na (upN (mixF n (upD sh g) g) n (cU sh g n)))] ++ F) rfl (by omega) (by omega) rfl dX6_up_54 (fun H locs h => ?_)
          subst hQ
          exact ret_v C hr hlocks h () trivial rfl rfl (by omega) (by omega) dX6_up_55
      · have hgi : g i * 2 ^ sh ≤ 65535 * 32768 := Nat.mul_le_mul (by have := hg i (by omega); omega) hsp
        have hcu := cU_lt (sh := sh) i (fun j hj => hg j (by omega))
        refine lv_aload_n hx hb dX6_up_11 rfl (lv_at hl 4 rfl) ?_
        refine lv_iload hx hb dX6_up_12 (lv_at hl 0 rfl) ?_
        refine n_iald C h (v := (mixF i (upD sh g) g) i) (List.mem_of_getElem? (i := 0) rfl) (show i < na by omega) (by omega) rfl dX6_up_14 ?_
        refine n_top (y := nI (g i)) (by unfold mixF; rw [if_neg (by omega)]) ?_
        refine lv_aload_n hx hb dX6_up_15 rfl (lv_at hl 3 rfl) ?_
        refine o_get C h (RC := RX6) (T := TX6) (N := 6) (List.mem_append_right _ hpo) rfl in_X6 5 (by decide) q294 rfl (v := .int (nI sh)) rfl dX6_up_16 ?_
        refine n_ishl hx hb dX6_up_19 ?_
        refine n_top (y := nI (g i * 2 ^ sh)) (shl_N (by omega) (by omega)) ?_
        refine lv_iload_n hx hb dX6_up_20 rfl (lv_at hl 1 rfl) ?_
        refine lv_ior hx hb dX6_up_21 ?_
        refine n_top (y := nI (g i * 2 ^ sh + cU sh g i)) (by rw [Int32.or_comm]; exact n_orN hcu (by omega)) ?_
        refine lv_istore (lv' := [(5, .int (nI (g i * 2 ^ sh + cU sh g i))), (4, .int (nI i)), (3, .int (nI (cU sh g i))), (2, .int (nI n)), (0, .ref po), (1, .ref ar)]) hx hb dX6_up_22 hl (by decide) rfl (fun ls hl => ?_)
        refine lv_aload_n hx hb dX6_up_24 rfl (lv_at hl 5 rfl) ?_
        refine lv_iload hx hb dX6_up_25 (lv_at hl 1 rfl) ?_
        refine lv_iload hx hb dX6_up_27 (lv_at hl 0 rfl) ?_
        refine lv_ldc hx hb hown (hts _ q1605) dX6_up_29 ?_
        refine n_top (y := nI 65535) (by decide) ?_
        refine lv_iand hx hb dX6_up_31 (n_top (y := nI ((g i * 2 ^ sh + cU sh g i) % 65536)) (pk_andN (by omega) 16 (by decide)) ?_)
        refine x_iast C h 0 (v := (g i * 2 ^ sh + cU sh g i) % 65536) (ws' := [(ar, iar dA na (upN (mixF i (upD sh g) g) i ((g i * 2 ^ sh + cU sh g i) % 65536)))] ++ F) rfl (by omega) (by omega) rfl dX6_up_32 (fun H locs h => ?_)
        have h : Wd D B s ([(ar, iar dA na (mixF (i + 1) (upD sh g) g))] ++ F) H locs := by rw [← mixF_s]; exact h
        refine lv_iload hx hb dX6_up_33 (lv_at hl 0 rfl) ?_
        refine lv_bipush (v := nI 16) hx hb dX6_up_35 (by decide) ?_
        refine n_iushr hx hb dX6_up_37 ?_
        refine n_top (y := nI (cU sh g (i + 1))) (pk_ushrN (by omega) _ 16 (by decide)) ?_
        refine lv_istore_n (lv' := [(3, .int (nI (cU sh g (i + 1)))), (5, .int (nI (g i * 2 ^ sh + cU sh g i))), (4, .int (nI i)), (2, .int (nI n)), (0, .ref po), (1, .ref ar)]) hx hb dX6_up_38 rfl hl (by decide) rfl (fun ls hl => ?_)
        refine lv_iinc (v := nI (i + 1)) (lv' := [(4, .int (nI (i + 1))), (3, .int (nI (cU sh g (i + 1)))), (5, .int (nI (g i * 2 ^ sh + cU sh g i))), (2, .int (nI n)), (0, .ref po), (1, .ref ar)]) hx hb dX6_up_39 hl (k := 2) rfl (nI_add i 1) (by decide) rfl (fun ls hl => ?_)
        refine lv_goto (tgt := 5) hx hb dX6_up_42 (by decide) ?_
        exact ih (i + 1) (by omega) (by omega) _ _ h _ (lv_sub hl [0, 1, 3, 4, 5] rfl)
  exact loop _ 0 (by omega) (Nat.lt_succ_self _) _ _ h _ (lv_sub hl [0, 1, 4, 2, 3] rfl)
