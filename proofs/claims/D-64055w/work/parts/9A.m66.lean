set_option maxRecDepth 100000

def gmF (gm : Nat → Nat) (dg i : Nat) : Nat := if i < dg then gm i else 0
/-- the carry of the sum of two rows of digits -/
def cA (f g : Nat → Nat) : Nat → Nat
  | 0 => 0
  | i + 1 => (f i + g i + cA f g i) / 65536
def sD (f g : Nat → Nat) (i : Nat) : Nat := (f i + g i + cA f g i) % 65536
theorem cA_lt {f g : Nat → Nat} : ∀ i, (∀ j, j < i → f j < 65536) → (∀ j, j < i → g j < 65536) → cA f g i ≤ 1
  | 0, _, _ => Nat.zero_le _
  | i + 1, h, h2 => by
    have h1 := cA_lt (f := f) (g := g) i (fun j hj => h j (by omega)) (fun j hj => h2 j (by omega))
    have a := h i (by omega)
    have b := h2 i (by omega)
    show (f i + g i + cA f g i) / 65536 ≤ 1
    omega
/-- the digits of f set into g from the place a on, n of them -/
def wnF (a n : Nat) (f g : Nat → Nat) : Nat → Nat := fun j => if a ≤ j ∧ j < a + n then f (j - a) else g j
theorem wnF_0 (a : Nat) (f g : Nat → Nat) : wnF a 0 f g = g := by funext j; unfold wnF; rw [if_neg (by omega)]
theorem wnF_s (a n : Nat) (f g : Nat → Nat) : upN (wnF a n f g) (a + n) (f n) = wnF a (n + 1) f g := by
  funext j
  rw [upN_if]
  unfold wnF
  by_cases q : j = a + n
  · rw [if_pos q, if_pos (by omega), show j - a = n by omega]
  · rw [if_neg q]
    by_cases q2 : a ≤ j ∧ j < a + n
    · rw [if_pos q2, if_pos (by omega)]
    · rw [if_neg q2, if_neg (by omega)]
theorem wnF_hi {a n : Nat} {f g : Nat → Nat} : wnF a n f g (a + n) = g (a + n) := by unfold wnF; rw [if_neg (by omega)]

set_option maxHeartbeats 400000 in
set_option maxRecDepth 100000 in
theorem c6_addBack (l : Launch) (D : va_G) (dA : Nat → ClassId) (B : Nat) (Z : State → Prop) (hZ : Stab B Z) (F : va_W) (po pr a0 m9 b9 r9 dg sh : Nat) (g gm : Nat → Nat) (hpo : (po, .inr (4, [.ref m9, .ref b9, .ref r9, .ref pr, .int (nI dg), .int (nI sh)])) ∈ F) (hmo : (m9, iar dA 66 gm) ∈ F) (hd : dg ≤ 65) (ha : a0 + dg < 134) (hg : ∀ j, j < 134 → g j < 65536) (hgm : ∀ j, j < 66 → gm j < 65536) :
    Ct (S := Unit) l D dA B Z yX6_addBack cX6_addBack 7 (some .long) 1 0 0 [.ref po, .int (nI a0)] ([(pr, iar dA 134 g)] ++ F) (fun _ => True) (fun _ => some (.long (lN (cA (fun q => g (a0 + q)) (gmF gm dg) (dg + 1))))) (fun _ => [(pr, iar dA 134 (wnF a0 (dg + 1) (sD (fun q => g (a0 + q)) (gmF gm dg)) g))] ++ F) := by
  refine Ct.mk2 (by decide) (Nat.le_of_ble_eq_true rfl) hZ ?_
  intro p e R s m args below meth c ls Q C hr hlocks hin hQ hl h
  have C0 := C
  obtain ⟨hx, hb, hml, hown, hts, -⟩ := C0
  have hl : lv_has ls 7 [(0, .ref po), (1, .int (nI a0))] := hl
  have hgF : ∀ i, i < dg + 1 → gmF gm dg i < 65536 := by
    intro i hi
    unfold gmF
    split
    · exact hgm i (by omega)
    · decide
  refine lv_lconst (v := lN 0) hx hb dX6_addBack_0 (by decide) ?_
  refine lv_lstore_n (lv' := [(2, .long (lN 0)), (0, .ref po), (1, .int (nI a0))]) hx hb dX6_addBack_1 rfl hl (by decide) rfl (fun ls hl => ?_)
  refine lv_iconst (v := nI 0) hx hb dX6_addBack_2 (by decide) ?_
  refine lv_istore (lv' := [(4, .int (nI 0)), (2, .long (lN 0)), (0, .ref po), (1, .int (nI a0))]) hx hb dX6_addBack_3 hl (by decide) rfl (fun ls hl => ?_)
  have h : Wd D B s ([(pr, iar dA 134 (wnF a0 0 (sD (fun q => g (a0 + q)) (gmF gm dg)) g))] ++ F) s.heap [] := by rw [wnF_0]; exact h
  have hl : lv_has ls 7 [(4, .int (nI 0)), (2, .long (lN (cA (fun q => g (a0 + q)) (gmF gm dg) 0))), (0, .ref po), (1, .int (nI a0))] := hl
  have loop : ∀ (nn : Nat) (i : Nat), (i ≤ dg + 1) → dg + 1 - i < nn → ∀ (H : Heap) (locs : List Loc), Wd D B s ([(pr, iar dA 134 (wnF a0 i (sD (fun q => g (a0 + q)) (gmF gm dg)) g))] ++ F) H locs → ∀ (ls : Array Slot), lv_has ls 7 [(4, .int (nI i)), (2, .long (lN (cA (fun q => g (a0 + q)) (gmF gm dg) i))), (1, .int (nI a0)), (0, .ref po)] → W p l e R s m args below meth c H locs 0 0 Q (F0 m 5 ls []) := by
    intro nn
    induction nn with
    | zero => intro i  hi0 hme; exact absurd hme (Nat.not_lt_zero _)
    | succ nn ih =>
      intro i  hi0 hme H locs h ls hl
      refine lv_iload hx hb dX6_addBack_5 (lv_at hl 0 rfl) ?_
      refine lv_aload_n hx hb dX6_addBack_7 rfl (lv_at hl 3 rfl) ?_
      refine o_get C h (RC := RX6) (T := TX6) (N := 6) (List.mem_append_right _ hpo) rfl in_X6 4 (by decide) q293 rfl (v := .int (nI dg)) rfl dX6_addBack_8 ?_
      refine n_icmp_gt (tgt := 78) hx hb (by omega) (by omega) dX6_addBack_11 (by decide) (fun c11 => ?_) (fun c11 => ?_)
      · refine lv_lload_n hx hb dX6_addBack_78 rfl (lv_at hl 1 rfl) ?_
        subst hQ
        have hie : i = dg + 1 := by omega
        rw [hie] at h hl
        exact ret_l C hr hlocks h () trivial (by rw [hie]) rfl (by omega) (by omega) dX6_addBack_79
      · have hca := cA_lt (f := (fun q => g (a0 + q))) (g := (gmF gm dg)) i (fun j hj => hg _ (by omega)) (fun j hj => hgF j (by omega))
        have hgi := hg (a0 + i) (by omega)
        have hmi := hgF i (by omega)
        refine lv_aload_n hx hb dX6_addBack_14 rfl (lv_at hl 3 rfl) ?_
        refine o_get C h (RC := RX6) (T := TX6) (N := 6) (List.mem_append_right _ hpo) rfl in_X6 3 (by decide) q292 rfl (v := .ref pr) rfl dX6_addBack_15 ?_
        refine lv_iload_n hx hb dX6_addBack_18 rfl (lv_at hl 2 rfl) ?_
        refine lv_iload hx hb dX6_addBack_19 (lv_at hl 0 rfl) ?_
        refine lv_iadd hx hb dX6_addBack_21 (n_top (y := nI (a0 + i)) (nI_add a0 i) ?_)
        refine n_iald C h (v := (wnF a0 i (sD (fun q => g (a0 + q)) (gmF gm dg)) g) (a0 + i)) (List.mem_of_getElem? (i := 0) rfl) (show a0 + i < 134 by omega) (by decide) rfl dX6_addBack_22 ?_
        refine n_top (y := nI (g (a0 + i))) (by rw [wnF_hi]) ?_
        refine lv_i2l (v := lN (g (a0 + i))) hx hb dX6_addBack_23 (nI_l (by omega)) ?_
        have jg : ∀ (H : Heap) (locs : List Loc), Wd D B s ([(pr, iar dA 134 (wnF a0 i (sD (fun q => g (a0 + q)) (gmF gm dg)) g))] ++ F) H locs → ∀ (ls : Array Slot), lv_has ls 7 [(4, .int (nI i)), (2, .long (lN (cA (fun q => g (a0 + q)) (gmF gm dg) i))), (1, .int (nI a0)), (0, .ref po)] → W p l e R s m args below meth c H locs 0 0 Q (F0 m 45 ls [.long (lN (gmF gm dg i)), .long (lN (g (a0 + i)))]) := by
          intro   H locs h ls hl
          refine lv_ladd hx hb dX6_addBack_45 (n_topl (y := lN ((g (a0 + i)) + gmF gm dg i)) (lN_add (g (a0 + i)) (gmF gm dg i)) ?_)
          refine lv_lload_n hx hb dX6_addBack_46 rfl (lv_at hl 1 rfl) ?_
          refine lv_ladd hx hb dX6_addBack_47 (n_topl (y := lN (((g (a0 + i)) + gmF gm dg i) + (cA (fun q => g (a0 + q)) (gmF gm dg) i))) (lN_add ((g (a0 + i)) + gmF gm dg i) (cA (fun q => g (a0 + q)) (gmF gm dg) i)) ?_)
          refine lv_lstore (lv' := [(5, .long (lN (((g (a0 + i)) + gmF gm dg i) + (cA (fun q => g (a0 + q)) (gmF gm dg) i)))), (4, .int (nI i)), (2, .long (lN (cA (fun q => g (a0 + q)) (gmF gm dg) i))), (1, .int (nI a0)), (0, .ref po)]) hx hb dX6_addBack_48 hl (by decide) rfl (fun ls hl => ?_)
          refine lv_aload_n hx hb dX6_addBack_50 rfl (lv_at hl 4 rfl) ?_
          refine o_get C h (RC := RX6) (T := TX6) (N := 6) (List.mem_append_right _ hpo) rfl in_X6 3 (by decide) q292 rfl (v := .ref pr) rfl dX6_addBack_51 ?_
          refine lv_iload_n hx hb dX6_addBack_54 rfl (lv_at hl 3 rfl) ?_
          refine lv_iload hx hb dX6_addBack_55 (lv_at hl 1 rfl) ?_
          refine lv_iadd hx hb dX6_addBack_57 (n_top (y := nI (a0 + i)) (nI_add a0 i) ?_)
          refine lv_lload hx hb dX6_addBack_58 (lv_at hl 0 rfl) ?_
          refine lv_ldc2 hx hb hown (hts _ q1610) dX6_addBack_60 ?_
          refine n_topl (y := lN 65535) (by decide) ?_
          refine lv_land hx hb dX6_addBack_63 (n_topl (y := lN ((((g (a0 + i)) + gmF gm dg i) + (cA (fun q => g (a0 + q)) (gmF gm dg) i)) % 65536)) (l_andN (k := 16) (by omega) (by decide)) ?_)
          refine lv_l2i (v := nI ((((g (a0 + i)) + gmF gm dg i) + (cA (fun q => g (a0 + q)) (gmF gm dg) i)) % 65536)) hx hb dX6_addBack_64 (lN_i _) ?_
          refine x_iast C h 0 (v := (((g (a0 + i)) + gmF gm dg i) + (cA (fun q => g (a0 + q)) (gmF gm dg) i)) % 65536) (ws' := [(pr, iar dA 134 (upN (wnF a0 i (sD (fun q => g (a0 + q)) (gmF gm dg)) g) (a0 + i) ((((g (a0 + i)) + gmF gm dg i) + (cA (fun q => g (a0 + q)) (gmF gm dg) i)) % 65536)))] ++ F) rfl (by omega) (by decide) rfl dX6_addBack_65 (fun H locs h => ?_)
          have h : Wd D B s ([(pr, iar dA 134 (wnF a0 (i + 1) (sD (fun q => g (a0 + q)) (gmF gm dg)) g))] ++ F) H locs := by rw [← wnF_s]; exact h
          refine lv_lload hx hb dX6_addBack_66 (lv_at hl 0 rfl) ?_
          refine lv_bipush (v := nI 16) hx hb dX6_addBack_68 (by decide) ?_
          refine n_lshr hx hb dX6_addBack_70 ?_
          refine n_topl (y := lN (cA (fun q => g (a0 + q)) (gmF gm dg) (i + 1))) (l_shrN (k := 16) (by omega) (by decide)) ?_
          refine lv_lstore_n (lv' := [(2, .long (lN (cA (fun q => g (a0 + q)) (gmF gm dg) (i + 1)))), (5, .long (lN (((g (a0 + i)) + gmF gm dg i) + (cA (fun q => g (a0 + q)) (gmF gm dg) i)))), (4, .int (nI i)), (1, .int (nI a0)), (0, .ref po)]) hx hb dX6_addBack_71 rfl hl (by decide) rfl (fun ls hl => ?_)
          refine lv_iinc (v := nI (i + 1)) (lv' := [(4, .int (nI (i + 1))), (2, .long (lN (cA (fun q => g (a0 + q)) (gmF gm dg) (i + 1)))), (5, .long (lN (((g (a0 + i)) + gmF gm dg i) + (cA (fun q => g (a0 + q)) (gmF gm dg) i)))), (1, .int (nI a0)), (0, .ref po)]) hx hb dX6_addBack_72 hl (k := 2) rfl (nI_add i 1) (by decide) rfl (fun ls hl => ?_)
          refine lv_goto (tgt := 5) hx hb dX6_addBack_75 (by decide) ?_
          exact ih (i + 1) (by omega) (by omega) _ _ h _ (lv_sub hl [0, 1, 3, 4] rfl)
        refine lv_iload hx hb dX6_addBack_24 (lv_at hl 0 rfl) ?_
        refine lv_aload_n hx hb dX6_addBack_26 rfl (lv_at hl 3 rfl) ?_
        refine o_get C h (RC := RX6) (T := TX6) (N := 6) (List.mem_append_right _ hpo) rfl in_X6 4 (by decide) q293 rfl (v := .int (nI dg)) rfl dX6_addBack_27 ?_
        refine n_icmp_ge (tgt := 44) hx hb (by omega) (by omega) dX6_addBack_30 (by decide) (fun c30 => ?_) (fun c30 => ?_)
        · refine lv_lconst (v := lN 0) hx hb dX6_addBack_44 (by decide) ?_
          refine n_topl (y := lN (gmF gm dg i)) (by unfold gmF; first | rw [if_pos (by omega)] | rw [if_neg (by omega)]) ?_
          exact jg   _ _ h _ (lv_sub hl [0, 1, 2, 3] rfl)
        · have hgm2 := hgm i (by omega)
          refine lv_aload_n hx hb dX6_addBack_33 rfl (lv_at hl 3 rfl) ?_
          refine o_get C h (RC := RX6) (T := TX6) (N := 6) (List.mem_append_right _ hpo) rfl in_X6 0 (by decide) q289 rfl (v := .ref m9) rfl dX6_addBack_34 ?_
          refine lv_iload hx hb dX6_addBack_37 (lv_at hl 0 rfl) ?_
          refine n_iald C h (v := gm i) (List.mem_append_right _ hmo) (show i < 66 by omega) (by decide) rfl dX6_addBack_39 ?_
          refine lv_i2l (v := lN (gm i)) hx hb dX6_addBack_40 (nI_l (by omega)) ?_
          refine lv_goto (tgt := 45) hx hb dX6_addBack_41 (by decide) ?_
          refine n_topl (y := lN (gmF gm dg i)) (by unfold gmF; first | rw [if_pos (by omega)] | rw [if_neg (by omega)]) ?_
          exact jg   _ _ h _ (lv_sub hl [0, 1, 2, 3] rfl)
  exact loop _ 0 (by omega) (Nat.lt_succ_self _) _ _ h _ (lv_sub hl [0, 1, 3, 2] rfl)
