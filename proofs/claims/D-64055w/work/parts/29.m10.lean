set_option maxRecDepth 100000

def valI (x : Nat) : Int32 := if 65 ≤ x ∧ x ≤ 90 then nI (x - 65) else if 97 ≤ x ∧ x ≤ 122 then nI (x - 71) else if 48 ≤ x ∧ x ≤ 57 then nI (x + 4) else if x = 43 then nI 62 else if x = 47 then nI 63 else -1
def sgnN (v : Nat) : Nat := if v < 26 then 65 + v else if v < 52 then 71 + v else if v < 62 then v - 4 else if v = 62 then 43 else 47
def crc1 (v : Nat) : Nat := if 16777216 ≤ 2 * v then (2 * v) ^^^ 25578747 else 2 * v
def crcK : Nat → Nat → Nat
  | 0, v => v
  | k + 1, v => crc1 (crcK k v)
def crcB (v b : Nat) : Nat := crcK 8 (v ^^^ (b * 65536))
def crcS (l : List Nat) : Nat := l.foldl crcB 11994318
theorem crc1_lt {v : Nat} (h : v < 16777216) : crc1 v < 16777216 := by
  unfold crc1
  split
  · next q =>
    show _ < 2 ^ 24
    apply Nat.lt_pow_two_of_testBit
    intro i hi
    rw [Nat.testBit_xor]
    rcases Nat.eq_or_lt_of_le hi with e | e
    · subst e
      have h1 : (2 * v).testBit 24 = true := by
        rw [Nat.testBit_eq_decide_div_mod_eq]
        exact decide_eq_true (by omega)
      rw [h1]; decide
    · have h1 : (2 * v).testBit i = false := Nat.testBit_lt_two_pow (Nat.lt_of_lt_of_le (by omega : 2 * v < 2 ^ 25) (Nat.pow_le_pow_right (by decide) e))
      have h2 : (25578747 : Nat).testBit i = false := Nat.testBit_lt_two_pow (Nat.lt_of_lt_of_le (by decide : 25578747 < 2 ^ 25) (Nat.pow_le_pow_right (by decide) e))
      rw [h1, h2]; rfl
  · omega
theorem crcK_lt {k v : Nat} (h : v < 16777216) : crcK k v < 16777216 := by
  induction k with
  | zero => exact h
  | succ k ih => exact crc1_lt ih
theorem crcB_lt {v b : Nat} (h : v < 16777216) (hb : b < 256) : crcB v b < 16777216 := crcK_lt (Nat.xor_lt_two_pow (n := 24) h (by omega))
theorem crcS_lt {l : List Nat} (h : byt l) : crcS l < 16777216 := by
  have key : ∀ (l : List Nat) (v : Nat), byt l → v < 16777216 → l.foldl crcB v < 16777216 := by
    intro l
    induction l with
    | nil => intro v _ hv; exact hv
    | cons x l ih =>
      intro v hb hv
      have h1 : crcB v x < 16777216 := crcB_lt hv (hb x List.mem_cons_self)
      rw [List.foldl_cons]
      exact ih (crcB v x) (fun y hy => hb y (List.mem_cons_of_mem _ hy)) h1
  unfold crcS
  exact key l 11994318 h (by omega)
theorem crcS_snoc (l : List Nat) (b : Nat) : crcS (l ++ [b]) = crcK 8 (crcS l ^^^ (b * 65536)) := by
  unfold crcS
  rw [List.foldl_append]
  generalize List.foldl crcB 11994318 l = v
  simp only [List.foldl_cons, List.foldl_nil, crcB]
def oursL (l : List Nat) : Bool := decide (gD l 0 = 4) && (decide (l.length < 4) || (decide (gD l 2 = 1) && (decide (gD l 3 = 2) || decide (gD l 3 = 8))))

theorem sl_byt {g : Nat → Nat} (h : ∀ j, g j < 256) {a n : Nat} : byt (sl g a n) := by
  intro x hx
  unfold sl at hx
  obtain ⟨j, -, rfl⟩ := List.mem_map.mp hx
  exact h _
set_option maxHeartbeats 400000 in
set_option maxRecDepth 100000 in
theorem c7_valueOf (l : Launch) (D : va_G) (dA : Nat → ClassId) (B : Nat) (Z : State → Prop) (hZ : Stab B Z) (ws : va_W) (x : Nat) (h1 : x < 1000) :
    Ct (S := Unit) l D dA B Z yX7_valueOf cX7_valueOf 1 (some .int) 1 0 0 [.int (nI x)] (ws) (fun _ => True) (fun _ => some (.int (valI x))) (fun _ => ws) := by
  refine Ct.mk2 (by decide) (Nat.le_of_ble_eq_true rfl) hZ ?_
  intro p e R s m args below meth c ls Q C hr hlocks hin hQ hl h
  have C0 := C
  obtain ⟨hx, hb, hml, hown, hts, -⟩ := C0
  have hl : lv_has ls 1 [(0, .int (nI x))] := hl
  refine lv_iload_n hx hb dX7_valueOf_0 rfl (lv_at hl 0 rfl) ?_
  refine lv_bipush (v := nI 65) hx hb dX7_valueOf_1 (by decide) ?_
  refine n_icmp_lt (tgt := 17) hx hb (by omega) (by omega) dX7_valueOf_3 (by decide) (fun c3 => ?_) (fun c3 => ?_)
  · refine lv_iload_n hx hb dX7_valueOf_17 rfl (lv_at hl 0 rfl) ?_
    refine lv_bipush (v := nI 97) hx hb dX7_valueOf_18 (by decide) ?_
    refine n_icmp_lt (tgt := 34) hx hb (by omega) (by omega) dX7_valueOf_20 (by decide) (fun c20 => ?_) (fun c20 => ?_)
    · refine lv_iload_n hx hb dX7_valueOf_34 rfl (lv_at hl 0 rfl) ?_
      refine lv_bipush (v := nI 48) hx hb dX7_valueOf_35 (by decide) ?_
      refine n_icmp_lt (tgt := 50) hx hb (by omega) (by omega) dX7_valueOf_37 (by decide) (fun c37 => ?_) (fun c37 => ?_)
      · refine lv_iload_n hx hb dX7_valueOf_50 rfl (lv_at hl 0 rfl) ?_
        refine lv_bipush (v := nI 43) hx hb dX7_valueOf_51 (by decide) ?_
        refine n_icmp_ne (tgt := 61) hx hb (by omega) (by omega) dX7_valueOf_53 (by decide) (fun c53 => ?_) (fun c53 => ?_)
        · refine lv_iload_n hx hb dX7_valueOf_61 rfl (lv_at hl 0 rfl) ?_
          refine lv_bipush (v := nI 47) hx hb dX7_valueOf_62 (by decide) ?_
          refine n_icmp_ne (tgt := 72) hx hb (by omega) (by omega) dX7_valueOf_64 (by decide) (fun c64 => ?_) (fun c64 => ?_)
          · refine lv_iconst (v := -1) hx hb dX7_valueOf_72 (by decide) ?_
            subst hQ
            exact ret_i C hr hlocks h () trivial (by unfold valI; first | (rw [if_pos (by omega)]; done) | (rw [if_neg (by omega), if_pos (by omega)]; done) | (rw [if_neg (by omega), if_neg (by omega), if_pos (by omega)]; done) | (rw [if_neg (by omega), if_neg (by omega), if_neg (by omega), if_pos (by omega)]; done) | (rw [if_neg (by omega), if_neg (by omega), if_neg (by omega), if_neg (by omega), if_pos (by omega)]; done) | (rw [if_neg (by omega), if_neg (by omega), if_neg (by omega), if_neg (by omega), if_neg (by omega)]; done)) rfl (by omega) (by omega) dX7_valueOf_73
          · refine lv_bipush (v := nI 63) hx hb dX7_valueOf_67 (by decide) ?_
            refine lv_goto (tgt := 73) hx hb dX7_valueOf_69 (by decide) ?_
            subst hQ
            exact ret_i C hr hlocks h () trivial (by unfold valI; first | (rw [if_pos (by omega)]; done) | (rw [if_neg (by omega), if_pos (by omega)]; done) | (rw [if_neg (by omega), if_neg (by omega), if_pos (by omega)]; done) | (rw [if_neg (by omega), if_neg (by omega), if_neg (by omega), if_pos (by omega)]; done) | (rw [if_neg (by omega), if_neg (by omega), if_neg (by omega), if_neg (by omega), if_pos (by omega)]; done) | (rw [if_neg (by omega), if_neg (by omega), if_neg (by omega), if_neg (by omega), if_neg (by omega)]; done)) rfl (by omega) (by omega) dX7_valueOf_73
        · refine lv_bipush (v := nI 62) hx hb dX7_valueOf_56 (by decide) ?_
          refine lv_goto (tgt := 73) hx hb dX7_valueOf_58 (by decide) ?_
          subst hQ
          exact ret_i C hr hlocks h () trivial (by unfold valI; first | (rw [if_pos (by omega)]; done) | (rw [if_neg (by omega), if_pos (by omega)]; done) | (rw [if_neg (by omega), if_neg (by omega), if_pos (by omega)]; done) | (rw [if_neg (by omega), if_neg (by omega), if_neg (by omega), if_pos (by omega)]; done) | (rw [if_neg (by omega), if_neg (by omega), if_neg (by omega), if_neg (by omega), if_pos (by omega)]; done) | (rw [if_neg (by omega), if_neg (by omega), if_neg (by omega), if_neg (by omega), if_neg (by omega)]; done)) rfl (by omega) (by omega) dX7_valueOf_73
      · refine lv_iload_n hx hb dX7_valueOf_40 rfl (lv_at hl 0 rfl) ?_
        refine lv_bipush (v := nI 57) hx hb dX7_valueOf_41 (by decide) ?_
        refine n_icmp_gt (tgt := 50) hx hb (by omega) (by omega) dX7_valueOf_43 (by decide) (fun c43 => ?_) (fun c43 => ?_)
        · refine lv_iload_n hx hb dX7_valueOf_50 rfl (lv_at hl 0 rfl) ?_
          refine lv_bipush (v := nI 43) hx hb dX7_valueOf_51 (by decide) ?_
          refine n_icmp_ne (tgt := 61) hx hb (by omega) (by omega) dX7_valueOf_53 (by decide) (fun c53 => ?_) (fun c53 => ?_)
          · refine lv_iload_n hx hb dX7_valueOf_61 rfl (lv_at hl 0 rfl) ?_
            refine lv_bipush (v := nI 47) hx hb dX7_valueOf_62 (by decide) ?_
            refine n_icmp_ne (tgt := 72) hx hb (by omega) (by omega) dX7_valueOf_64 (by decide) (fun c64 => ?_) (fun c64 => ?_)
            · refine lv_iconst (v := -1) hx hb dX7_valueOf_72 (by decide) ?_
              subst hQ
              exact ret_i C hr hlocks h () trivial (by unfold valI; first | (rw [if_pos (by omega)]; done) | (rw [if_neg (by omega), if_pos (by omega)]; done) | (rw [if_neg (by omega), if_neg (by omega), if_pos (by omega)]; done) | (rw [if_neg (by omega), if_neg (by omega), if_neg (by omega), if_pos (by omega)]; done) | (rw [if_neg (by omega), if_neg (by omega), if_neg (by omega), if_neg (by omega), if_pos (by omega)]; done) | (rw [if_neg (by omega), if_neg (by omega), if_neg (by omega), if_neg (by omega), if_neg (by omega)]; done)) rfl (by omega) (by omega) dX7_valueOf_73
            · refine lv_bipush (v := nI 63) hx hb dX7_valueOf_67 (by decide) ?_
              refine lv_goto (tgt := 73) hx hb dX7_valueOf_69 (by decide) ?_
              subst hQ
              exact ret_i C hr hlocks h () trivial (by unfold valI; first | (rw [if_pos (by omega)]; done) | (rw [if_neg (by omega), if_pos (by omega)]; done) | (rw [if_neg (by omega), if_neg (by omega), if_pos (by omega)]; done) | (rw [if_neg (by omega), if_neg (by omega), if_neg (by omega), if_pos (by omega)]; done) | (rw [if_neg (by omega), if_neg (by omega), if_neg (by omega), if_neg (by omega), if_pos (by omega)]; done) | (rw [if_neg (by omega), if_neg (by omega), if_neg (by omega), if_neg (by omega), if_neg (by omega)]; done)) rfl (by omega) (by omega) dX7_valueOf_73
          · refine lv_bipush (v := nI 62) hx hb dX7_valueOf_56 (by decide) ?_
            refine lv_goto (tgt := 73) hx hb dX7_valueOf_58 (by decide) ?_
            subst hQ
            exact ret_i C hr hlocks h () trivial (by unfold valI; first | (rw [if_pos (by omega)]; done) | (rw [if_neg (by omega), if_pos (by omega)]; done) | (rw [if_neg (by omega), if_neg (by omega), if_pos (by omega)]; done) | (rw [if_neg (by omega), if_neg (by omega), if_neg (by omega), if_pos (by omega)]; done) | (rw [if_neg (by omega), if_neg (by omega), if_neg (by omega), if_neg (by omega), if_pos (by omega)]; done) | (rw [if_neg (by omega), if_neg (by omega), if_neg (by omega), if_neg (by omega), if_neg (by omega)]; done)) rfl (by omega) (by omega) dX7_valueOf_73
        · refine lv_iload_n hx hb dX7_valueOf_46 rfl (lv_at hl 0 rfl) ?_
          refine lv_iconst (v := nI 4) hx hb dX7_valueOf_47 (by decide) ?_
          refine lv_iadd hx hb dX7_valueOf_48 (n_top (y := nI (x + 4)) (nI_add x 4) ?_)
          subst hQ
          exact ret_i C hr hlocks h () trivial (by unfold valI; first | (rw [if_pos (by omega)]; done) | (rw [if_neg (by omega), if_pos (by omega)]; done) | (rw [if_neg (by omega), if_neg (by omega), if_pos (by omega)]; done) | (rw [if_neg (by omega), if_neg (by omega), if_neg (by omega), if_pos (by omega)]; done) | (rw [if_neg (by omega), if_neg (by omega), if_neg (by omega), if_neg (by omega), if_pos (by omega)]; done) | (rw [if_neg (by omega), if_neg (by omega), if_neg (by omega), if_neg (by omega), if_neg (by omega)]; done)) rfl (by omega) (by omega) dX7_valueOf_49
    · refine lv_iload_n hx hb dX7_valueOf_23 rfl (lv_at hl 0 rfl) ?_
      refine lv_bipush (v := nI 122) hx hb dX7_valueOf_24 (by decide) ?_
      refine n_icmp_gt (tgt := 34) hx hb (by omega) (by omega) dX7_valueOf_26 (by decide) (fun c26 => ?_) (fun c26 => ?_)
      · refine lv_iload_n hx hb dX7_valueOf_34 rfl (lv_at hl 0 rfl) ?_
        refine lv_bipush (v := nI 48) hx hb dX7_valueOf_35 (by decide) ?_
        refine n_icmp_lt (tgt := 50) hx hb (by omega) (by omega) dX7_valueOf_37 (by decide) (fun c37 => ?_) (fun c37 => ?_)
        · refine lv_iload_n hx hb dX7_valueOf_50 rfl (lv_at hl 0 rfl) ?_
          refine lv_bipush (v := nI 43) hx hb dX7_valueOf_51 (by decide) ?_
          refine n_icmp_ne (tgt := 61) hx hb (by omega) (by omega) dX7_valueOf_53 (by decide) (fun c53 => ?_) (fun c53 => ?_)
          · refine lv_iload_n hx hb dX7_valueOf_61 rfl (lv_at hl 0 rfl) ?_
            refine lv_bipush (v := nI 47) hx hb dX7_valueOf_62 (by decide) ?_
            refine n_icmp_ne (tgt := 72) hx hb (by omega) (by omega) dX7_valueOf_64 (by decide) (fun c64 => ?_) (fun c64 => ?_)
            · refine lv_iconst (v := -1) hx hb dX7_valueOf_72 (by decide) ?_
              subst hQ
              exact ret_i C hr hlocks h () trivial (by unfold valI; first | (rw [if_pos (by omega)]; done) | (rw [if_neg (by omega), if_pos (by omega)]; done) | (rw [if_neg (by omega), if_neg (by omega), if_pos (by omega)]; done) | (rw [if_neg (by omega), if_neg (by omega), if_neg (by omega), if_pos (by omega)]; done) | (rw [if_neg (by omega), if_neg (by omega), if_neg (by omega), if_neg (by omega), if_pos (by omega)]; done) | (rw [if_neg (by omega), if_neg (by omega), if_neg (by omega), if_neg (by omega), if_neg (by omega)]; done)) rfl (by omega) (by omega) dX7_valueOf_73
            · refine lv_bipush (v := nI 63) hx hb dX7_valueOf_67 (by decide) ?_
              refine lv_goto (tgt := 73) hx hb dX7_valueOf_69 (by decide) ?_
              subst hQ
              exact ret_i C hr hlocks h () trivial (by unfold valI; first | (rw [if_pos (by omega)]; done) | (rw [if_neg (by omega), if_pos (by omega)]; done) | (rw [if_neg (by omega), if_neg (by omega), if_pos (by omega)]; done) | (rw [if_neg (by omega), if_neg (by omega), if_neg (by omega), if_pos (by omega)]; done) | (rw [if_neg (by omega), if_neg (by omega), if_neg (by omega), if_neg (by omega), if_pos (by omega)]; done) | (rw [if_neg (by omega), if_neg (by omega), if_neg (by omega), if_neg (by omega), if_neg (by omega)]; done)) rfl (by omega) (by omega) dX7_valueOf_73
          · refine lv_bipush (v := nI 62) hx hb dX7_valueOf_56 (by decide) ?_
            refine lv_goto (tgt := 73) hx hb dX7_valueOf_58 (by decide) ?_
            subst hQ
            exact ret_i C hr hlocks h () trivial (by unfold valI; first | (rw [if_pos (by omega)]; done) | (rw [if_neg (by omega), if_pos (by omega)]; done) | (rw [if_neg (by omega), if_neg (by omega), if_pos (by omega)]; done) | (rw [if_neg (by omega), if_neg (by omega), if_neg (by omega), if_pos (by omega)]; done) | (rw [if_neg (by omega), if_neg (by omega), if_neg (by omega), if_neg (by omega), if_pos (by omega)]; done) | (rw [if_neg (by omega), if_neg (by omega), if_neg (by omega), if_neg (by omega), if_neg (by omega)]; done)) rfl (by omega) (by omega) dX7_valueOf_73
        · refine lv_iload_n hx hb dX7_valueOf_40 rfl (lv_at hl 0 rfl) ?_
          refine lv_bipush (v := nI 57) hx hb dX7_valueOf_41 (by decide) ?_
          refine n_icmp_gt (tgt := 50) hx hb (by omega) (by omega) dX7_valueOf_43 (by decide) (fun c43 => ?_) (fun c43 => ?_)
          · refine lv_iload_n hx hb dX7_valueOf_50 rfl (lv_at hl 0 rfl) ?_
            refine lv_bipush (v := nI 43) hx hb dX7_valueOf_51 (by decide) ?_
            refine n_icmp_ne (tgt := 61) hx hb (by omega) (by omega) dX7_valueOf_53 (by decide) (fun c53 => ?_) (fun c53 => ?_)
            · refine lv_iload_n hx hb dX7_valueOf_61 rfl (lv_at hl 0 rfl) ?_
              refine lv_bipush (v := nI 47) hx hb dX7_valueOf_62 (by decide) ?_
              refine n_icmp_ne (tgt := 72) hx hb (by omega) (by omega) dX7_valueOf_64 (by decide) (fun c64 => ?_) (fun c64 => ?_)
              · refine lv_iconst (v := -1) hx hb dX7_valueOf_72 (by decide) ?_
                subst hQ
                exact ret_i C hr hlocks h () trivial (by unfold valI; first | (rw [if_pos (by omega)]; done) | (rw [if_neg (by omega), if_pos (by omega)]; done) | (rw [if_neg (by omega), if_neg (by omega), if_pos (by omega)]; done) | (rw [if_neg (by omega), if_neg (by omega), if_neg (by omega), if_pos (by omega)]; done) | (rw [if_neg (by omega), if_neg (by omega), if_neg (by omega), if_neg (by omega), if_pos (by omega)]; done) | (rw [if_neg (by omega), if_neg (by omega), if_neg (by omega), if_neg (by omega), if_neg (by omega)]; done)) rfl (by omega) (by omega) dX7_valueOf_73
              · refine lv_bipush (v := nI 63) hx hb dX7_valueOf_67 (by decide) ?_
                refine lv_goto (tgt := 73) hx hb dX7_valueOf_69 (by decide) ?_
                subst hQ
                exact ret_i C hr hlocks h () trivial (by unfold valI; first | (rw [if_pos (by omega)]; done) | (rw [if_neg (by omega), if_pos (by omega)]; done) | (rw [if_neg (by omega), if_neg (by omega), if_pos (by omega)]; done) | (rw [if_neg (by omega), if_neg (by omega), if_neg (by omega), if_pos (by omega)]; done) | (rw [if_neg (by omega), if_neg (by omega), if_neg (by omega), if_neg (by omega), if_pos (by omega)]; done) | (rw [if_neg (by omega), if_neg (by omega), if_neg (by omega), if_neg (by omega), if_neg (by omega)]; done)) rfl (by omega) (by omega) dX7_valueOf_73
            · refine lv_bipush (v := nI 62) hx hb dX7_valueOf_56 (by decide) ?_
              refine lv_goto (tgt := 73) hx hb dX7_valueOf_58 (by decide) ?_
              subst hQ
              exact ret_i C hr hlocks h () trivial (by unfold valI; first | (rw [if_pos (by omega)]; done) | (rw [if_neg (by omega), if_pos (by omega)]; done) | (rw [if_neg (by omega), if_neg (by omega), if_pos (by omega)]; done) | (rw [if_neg (by omega), if_neg (by omega), if_neg (by omega), if_pos (by omega)]; done) | (rw [if_neg (by omega), if_neg (by omega), if_neg (by omega), if_neg (by omega), if_pos (by omega)]; done) | (rw [if_neg (by omega), if_neg (by omega), if_neg (by omega), if_neg (by omega), if_neg (by omega)]; done)) rfl (by omega) (by omega) dX7_valueOf_73
          · refine lv_iload_n hx hb dX7_valueOf_46 rfl (lv_at hl 0 rfl) ?_
            refine lv_iconst (v := nI 4) hx hb dX7_valueOf_47 (by decide) ?_
            refine lv_iadd hx hb dX7_valueOf_48 (n_top (y := nI (x + 4)) (nI_add x 4) ?_)
            subst hQ
            exact ret_i C hr hlocks h () trivial (by unfold valI; first | (rw [if_pos (by omega)]; done) | (rw [if_neg (by omega), if_pos (by omega)]; done) | (rw [if_neg (by omega), if_neg (by omega), if_pos (by omega)]; done) | (rw [if_neg (by omega), if_neg (by omega), if_neg (by omega), if_pos (by omega)]; done) | (rw [if_neg (by omega), if_neg (by omega), if_neg (by omega), if_neg (by omega), if_pos (by omega)]; done) | (rw [if_neg (by omega), if_neg (by omega), if_neg (by omega), if_neg (by omega), if_neg (by omega)]; done)) rfl (by omega) (by omega) dX7_valueOf_49
      · refine lv_iload_n hx hb dX7_valueOf_29 rfl (lv_at hl 0 rfl) ?_
        refine lv_bipush (v := nI 71) hx hb dX7_valueOf_30 (by decide) ?_
        refine lv_isub hx hb dX7_valueOf_32 (n_top (y := nI (x - 71)) (pk_sub (by omega)) ?_)
        subst hQ
        exact ret_i C hr hlocks h () trivial (by unfold valI; first | (rw [if_pos (by omega)]; done) | (rw [if_neg (by omega), if_pos (by omega)]; done) | (rw [if_neg (by omega), if_neg (by omega), if_pos (by omega)]; done) | (rw [if_neg (by omega), if_neg (by omega), if_neg (by omega), if_pos (by omega)]; done) | (rw [if_neg (by omega), if_neg (by omega), if_neg (by omega), if_neg (by omega), if_pos (by omega)]; done) | (rw [if_neg (by omega), if_neg (by omega), if_neg (by omega), if_neg (by omega), if_neg (by omega)]; done)) rfl (by omega) (by omega) dX7_valueOf_33
  · refine lv_iload_n hx hb dX7_valueOf_6 rfl (lv_at hl 0 rfl) ?_
    refine lv_bipush (v := nI 90) hx hb dX7_valueOf_7 (by decide) ?_
    refine n_icmp_gt (tgt := 17) hx hb (by omega) (by omega) dX7_valueOf_9 (by decide) (fun c9 => ?_) (fun c9 => ?_)
    · refine lv_iload_n hx hb dX7_valueOf_17 rfl (lv_at hl 0 rfl) ?_
      refine lv_bipush (v := nI 97) hx hb dX7_valueOf_18 (by decide) ?_
      refine n_icmp_lt (tgt := 34) hx hb (by omega) (by omega) dX7_valueOf_20 (by decide) (fun c20 => ?_) (fun c20 => ?_)
      · refine lv_iload_n hx hb dX7_valueOf_34 rfl (lv_at hl 0 rfl) ?_
        refine lv_bipush (v := nI 48) hx hb dX7_valueOf_35 (by decide) ?_
        refine n_icmp_lt (tgt := 50) hx hb (by omega) (by omega) dX7_valueOf_37 (by decide) (fun c37 => ?_) (fun c37 => ?_)
        · refine lv_iload_n hx hb dX7_valueOf_50 rfl (lv_at hl 0 rfl) ?_
          refine lv_bipush (v := nI 43) hx hb dX7_valueOf_51 (by decide) ?_
          refine n_icmp_ne (tgt := 61) hx hb (by omega) (by omega) dX7_valueOf_53 (by decide) (fun c53 => ?_) (fun c53 => ?_)
          · refine lv_iload_n hx hb dX7_valueOf_61 rfl (lv_at hl 0 rfl) ?_
            refine lv_bipush (v := nI 47) hx hb dX7_valueOf_62 (by decide) ?_
            refine n_icmp_ne (tgt := 72) hx hb (by omega) (by omega) dX7_valueOf_64 (by decide) (fun c64 => ?_) (fun c64 => ?_)
            · refine lv_iconst (v := -1) hx hb dX7_valueOf_72 (by decide) ?_
              subst hQ
              exact ret_i C hr hlocks h () trivial (by unfold valI; first | (rw [if_pos (by omega)]; done) | (rw [if_neg (by omega), if_pos (by omega)]; done) | (rw [if_neg (by omega), if_neg (by omega), if_pos (by omega)]; done) | (rw [if_neg (by omega), if_neg (by omega), if_neg (by omega), if_pos (by omega)]; done) | (rw [if_neg (by omega), if_neg (by omega), if_neg (by omega), if_neg (by omega), if_pos (by omega)]; done) | (rw [if_neg (by omega), if_neg (by omega), if_neg (by omega), if_neg (by omega), if_neg (by omega)]; done)) rfl (by omega) (by omega) dX7_valueOf_73
            · refine lv_bipush (v := nI 63) hx hb dX7_valueOf_67 (by decide) ?_
              refine lv_goto (tgt := 73) hx hb dX7_valueOf_69 (by decide) ?_
              subst hQ
              exact ret_i C hr hlocks h () trivial (by unfold valI; first | (rw [if_pos (by omega)]; done) | (rw [if_neg (by omega), if_pos (by omega)]; done) | (rw [if_neg (by omega), if_neg (by omega), if_pos (by omega)]; done) | (rw [if_neg (by omega), if_neg (by omega), if_neg (by omega), if_pos (by omega)]; done) | (rw [if_neg (by omega), if_neg (by omega), if_neg (by omega), if_neg (by omega), if_pos (by omega)]; done) | (rw [if_neg (by omega), if_neg (by omega), if_neg (by omega), if_neg (by omega), if_neg (by omega)]; done)) rfl (by omega) (by omega) dX7_valueOf_73
          · refine lv_bipush (v := nI 62) hx hb dX7_valueOf_56 (by decide) ?_
            refine lv_goto (tgt := 73) hx hb dX7_valueOf_58 (by decide) ?_
            subst hQ
            exact ret_i C hr hlocks h () trivial (by unfold valI; first | (rw [if_pos (by omega)]; done) | (rw [if_neg (by omega), if_pos (by omega)]; done) | (rw [if_neg (by omega), if_neg (by omega), if_pos (by omega)]; done) | (rw [if_neg (by omega), if_neg (by omega), if_neg (by omega), if_pos (by omega)]; done) | (rw [if_neg (by omega), if_neg (by omega), if_neg (by omega), if_neg (by omega), if_pos (by omega)]; done) | (rw [if_neg (by omega), if_neg (by omega), if_neg (by omega), if_neg (by omega), if_neg (by omega)]; done)) rfl (by omega) (by omega) dX7_valueOf_73
        · refine lv_iload_n hx hb dX7_valueOf_40 rfl (lv_at hl 0 rfl) ?_
          refine lv_bipush (v := nI 57) hx hb dX7_valueOf_41 (by decide) ?_
          refine n_icmp_gt (tgt := 50) hx hb (by omega) (by omega) dX7_valueOf_43 (by decide) (fun c43 => ?_) (fun c43 => ?_)
          · refine lv_iload_n hx hb dX7_valueOf_50 rfl (lv_at hl 0 rfl) ?_
            refine lv_bipush (v := nI 43) hx hb dX7_valueOf_51 (by decide) ?_
            refine n_icmp_ne (tgt := 61) hx hb (by omega) (by omega) dX7_valueOf_53 (by decide) (fun c53 => ?_) (fun c53 => ?_)
            · refine lv_iload_n hx hb dX7_valueOf_61 rfl (lv_at hl 0 rfl) ?_
              refine lv_bipush (v := nI 47) hx hb dX7_valueOf_62 (by decide) ?_
              refine n_icmp_ne (tgt := 72) hx hb (by omega) (by omega) dX7_valueOf_64 (by decide) (fun c64 => ?_) (fun c64 => ?_)
              · refine lv_iconst (v := -1) hx hb dX7_valueOf_72 (by decide) ?_
                subst hQ
                exact ret_i C hr hlocks h () trivial (by unfold valI; first | (rw [if_pos (by omega)]; done) | (rw [if_neg (by omega), if_pos (by omega)]; done) | (rw [if_neg (by omega), if_neg (by omega), if_pos (by omega)]; done) | (rw [if_neg (by omega), if_neg (by omega), if_neg (by omega), if_pos (by omega)]; done) | (rw [if_neg (by omega), if_neg (by omega), if_neg (by omega), if_neg (by omega), if_pos (by omega)]; done) | (rw [if_neg (by omega), if_neg (by omega), if_neg (by omega), if_neg (by omega), if_neg (by omega)]; done)) rfl (by omega) (by omega) dX7_valueOf_73
              · refine lv_bipush (v := nI 63) hx hb dX7_valueOf_67 (by decide) ?_
                refine lv_goto (tgt := 73) hx hb dX7_valueOf_69 (by decide) ?_
                subst hQ
                exact ret_i C hr hlocks h () trivial (by unfold valI; first | (rw [if_pos (by omega)]; done) | (rw [if_neg (by omega), if_pos (by omega)]; done) | (rw [if_neg (by omega), if_neg (by omega), if_pos (by omega)]; done) | (rw [if_neg (by omega), if_neg (by omega), if_neg (by omega), if_pos (by omega)]; done) | (rw [if_neg (by omega), if_neg (by omega), if_neg (by omega), if_neg (by omega), if_pos (by omega)]; done) | (rw [if_neg (by omega), if_neg (by omega), if_neg (by omega), if_neg (by omega), if_neg (by omega)]; done)) rfl (by omega) (by omega) dX7_valueOf_73
            · refine lv_bipush (v := nI 62) hx hb dX7_valueOf_56 (by decide) ?_
              refine lv_goto (tgt := 73) hx hb dX7_valueOf_58 (by decide) ?_
              subst hQ
              exact ret_i C hr hlocks h () trivial (by unfold valI; first | (rw [if_pos (by omega)]; done) | (rw [if_neg (by omega), if_pos (by omega)]; done) | (rw [if_neg (by omega), if_neg (by omega), if_pos (by omega)]; done) | (rw [if_neg (by omega), if_neg (by omega), if_neg (by omega), if_pos (by omega)]; done) | (rw [if_neg (by omega), if_neg (by omega), if_neg (by omega), if_neg (by omega), if_pos (by omega)]; done) | (rw [if_neg (by omega), if_neg (by omega), if_neg (by omega), if_neg (by omega), if_neg (by omega)]; done)) rfl (by omega) (by omega) dX7_valueOf_73
          · refine lv_iload_n hx hb dX7_valueOf_46 rfl (lv_at hl 0 rfl) ?_
            refine lv_iconst (v := nI 4) hx hb dX7_valueOf_47 (by decide) ?_
            refine lv_iadd hx hb dX7_valueOf_48 (n_top (y := nI (x + 4)) (nI_add x 4) ?_)
            subst hQ
            exact ret_i C hr hlocks h () trivial (by unfold valI; first | (rw [if_pos (by omega)]; done) | (rw [if_neg (by omega), if_pos (by omega)]; done) | (rw [if_neg (by omega), if_neg (by omega), if_pos (by omega)]; done) | (rw [if_neg (by omega), if_neg (by omega), if_neg (by omega), if_pos (by omega)]; done) | (rw [if_neg (by omega), if_neg (by omega), if_neg (by omega), if_neg (by omega), if_pos (by omega)]; done) | (rw [if_neg (by omega), if_neg (by omega), if_neg (by omega), if_neg (by omega), if_neg (by omega)]; done)) rfl (by omega) (by omega) dX7_valueOf_49
      · refine lv_iload_n hx hb dX7_valueOf_23 rfl (lv_at hl 0 rfl) ?_
        refine lv_bipush (v := nI 122) hx hb dX7_valueOf_24 (by decide) ?_
        refine n_icmp_gt (tgt := 34) hx hb (by omega) (by omega) dX7_valueOf_26 (by decide) (fun c26 => ?_) (fun c26 => ?_)
        · refine lv_iload_n hx hb dX7_valueOf_34 rfl (lv_at hl 0 rfl) ?_
          refine lv_bipush (v := nI 48) hx hb dX7_valueOf_35 (by decide) ?_
          refine n_icmp_lt (tgt := 50) hx hb (by omega) (by omega) dX7_valueOf_37 (by decide) (fun c37 => ?_) (fun c37 => ?_)
          · refine lv_iload_n hx hb dX7_valueOf_50 rfl (lv_at hl 0 rfl) ?_
            refine lv_bipush (v := nI 43) hx hb dX7_valueOf_51 (by decide) ?_
            refine n_icmp_ne (tgt := 61) hx hb (by omega) (by omega) dX7_valueOf_53 (by decide) (fun c53 => ?_) (fun c53 => ?_)
            · refine lv_iload_n hx hb dX7_valueOf_61 rfl (lv_at hl 0 rfl) ?_
              refine lv_bipush (v := nI 47) hx hb dX7_valueOf_62 (by decide) ?_
              refine n_icmp_ne (tgt := 72) hx hb (by omega) (by omega) dX7_valueOf_64 (by decide) (fun c64 => ?_) (fun c64 => ?_)
              · refine lv_iconst (v := -1) hx hb dX7_valueOf_72 (by decide) ?_
                subst hQ
                exact ret_i C hr hlocks h () trivial (by unfold valI; first | (rw [if_pos (by omega)]; done) | (rw [if_neg (by omega), if_pos (by omega)]; done) | (rw [if_neg (by omega), if_neg (by omega), if_pos (by omega)]; done) | (rw [if_neg (by omega), if_neg (by omega), if_neg (by omega), if_pos (by omega)]; done) | (rw [if_neg (by omega), if_neg (by omega), if_neg (by omega), if_neg (by omega), if_pos (by omega)]; done) | (rw [if_neg (by omega), if_neg (by omega), if_neg (by omega), if_neg (by omega), if_neg (by omega)]; done)) rfl (by omega) (by omega) dX7_valueOf_73
              · refine lv_bipush (v := nI 63) hx hb dX7_valueOf_67 (by decide) ?_
                refine lv_goto (tgt := 73) hx hb dX7_valueOf_69 (by decide) ?_
                subst hQ
                exact ret_i C hr hlocks h () trivial (by unfold valI; first | (rw [if_pos (by omega)]; done) | (rw [if_neg (by omega), if_pos (by omega)]; done) | (rw [if_neg (by omega), if_neg (by omega), if_pos (by omega)]; done) | (rw [if_neg (by omega), if_neg (by omega), if_neg (by omega), if_pos (by omega)]; done) | (rw [if_neg (by omega), if_neg (by omega), if_neg (by omega), if_neg (by omega), if_pos (by omega)]; done) | (rw [if_neg (by omega), if_neg (by omega), if_neg (by omega), if_neg (by omega), if_neg (by omega)]; done)) rfl (by omega) (by omega) dX7_valueOf_73
            · refine lv_bipush (v := nI 62) hx hb dX7_valueOf_56 (by decide) ?_
              refine lv_goto (tgt := 73) hx hb dX7_valueOf_58 (by decide) ?_
              subst hQ
              exact ret_i C hr hlocks h () trivial (by unfold valI; first | (rw [if_pos (by omega)]; done) | (rw [if_neg (by omega), if_pos (by omega)]; done) | (rw [if_neg (by omega), if_neg (by omega), if_pos (by omega)]; done) | (rw [if_neg (by omega), if_neg (by omega), if_neg (by omega), if_pos (by omega)]; done) | (rw [if_neg (by omega), if_neg (by omega), if_neg (by omega), if_neg (by omega), if_pos (by omega)]; done) | (rw [if_neg (by omega), if_neg (by omega), if_neg (by omega), if_neg (by omega), if_neg (by omega)]; done)) rfl (by omega) (by omega) dX7_valueOf_73
          · refine lv_iload_n hx hb dX7_valueOf_40 rfl (lv_at hl 0 rfl) ?_
            refine lv_bipush (v := nI 57) hx hb dX7_valueOf_41 (by decide) ?_
            refine n_icmp_gt (tgt := 50) hx hb (by omega) (by omega) dX7_valueOf_43 (by decide) (fun c43 => ?_) (fun c43 => ?_)
            · refine lv_iload_n hx hb dX7_valueOf_50 rfl (lv_at hl 0 rfl) ?_
              refine lv_bipush (v := nI 43) hx hb dX7_valueOf_51 (by decide) ?_
              refine n_icmp_ne (tgt := 61) hx hb (by omega) (by omega) dX7_valueOf_53 (by decide) (fun c53 => ?_) (fun c53 => ?_)
              · refine lv_iload_n hx hb dX7_valueOf_61 rfl (lv_at hl 0 rfl) ?_
                refine lv_bipush (v := nI 47) hx hb dX7_valueOf_62 (by decide) ?_
                refine n_icmp_ne (tgt := 72) hx hb (by omega) (by omega) dX7_valueOf_64 (by decide) (fun c64 => ?_) (fun c64 => ?_)
                · refine lv_iconst (v := -1) hx hb dX7_valueOf_72 (by decide) ?_
                  subst hQ
                  exact ret_i C hr hlocks h () trivial (by unfold valI; first | (rw [if_pos (by omega)]; done) | (rw [if_neg (by omega), if_pos (by omega)]; done) | (rw [if_neg (by omega), if_neg (by omega), if_pos (by omega)]; done) | (rw [if_neg (by omega), if_neg (by omega), if_neg (by omega), if_pos (by omega)]; done) | (rw [if_neg (by omega), if_neg (by omega), if_neg (by omega), if_neg (by omega), if_pos (by omega)]; done) | (rw [if_neg (by omega), if_neg (by omega), if_neg (by omega), if_neg (by omega), if_neg (by omega)]; done)) rfl (by omega) (by omega) dX7_valueOf_73
                · refine lv_bipush (v := nI 63) hx hb dX7_valueOf_67 (by decide) ?_
                  refine lv_goto (tgt := 73) hx hb dX7_valueOf_69 (by decide) ?_
                  subst hQ
                  exact ret_i C hr hlocks h () trivial (by unfold valI; first | (rw [if_pos (by omega)]; done) | (rw [if_neg (by omega), if_pos (by omega)]; done) | (rw [if_neg (by omega), if_neg (by omega), if_pos (by omega)]; done) | (rw [if_neg (by omega), if_neg (by omega), if_neg (by omega), if_pos (by omega)]; done) | (rw [if_neg (by omega), if_neg (by omega), if_neg (by omega), if_neg (by omega), if_pos (by omega)]; done) | (rw [if_neg (by omega), if_neg (by omega), if_neg (by omega), if_neg (by omega), if_neg (by omega)]; done)) rfl (by omega) (by omega) dX7_valueOf_73
              · refine lv_bipush (v := nI 62) hx hb dX7_valueOf_56 (by decide) ?_
                refine lv_goto (tgt := 73) hx hb dX7_valueOf_58 (by decide) ?_
                subst hQ
                exact ret_i C hr hlocks h () trivial (by unfold valI; first | (rw [if_pos (by omega)]; done) | (rw [if_neg (by omega), if_pos (by omega)]; done) | (rw [if_neg (by omega), if_neg (by omega), if_pos (by omega)]; done) | (rw [if_neg (by omega), if_neg (by omega), if_neg (by omega), if_pos (by omega)]; done) | (rw [if_neg (by omega), if_neg (by omega), if_neg (by omega), if_neg (by omega), if_pos (by omega)]; done) | (rw [if_neg (by omega), if_neg (by omega), if_neg (by omega), if_neg (by omega), if_neg (by omega)]; done)) rfl (by omega) (by omega) dX7_valueOf_73
            · refine lv_iload_n hx hb dX7_valueOf_46 rfl (lv_at hl 0 rfl) ?_
              refine lv_iconst (v := nI 4) hx hb dX7_valueOf_47 (by decide) ?_
              refine lv_iadd hx hb dX7_valueOf_48 (n_top (y := nI (x + 4)) (nI_add x 4) ?_)
              subst hQ
              exact ret_i C hr hlocks h () trivial (by unfold valI; first | (rw [if_pos (by omega)]; done) | (rw [if_neg (by omega), if_pos (by omega)]; done) | (rw [if_neg (by omega), if_neg (by omega), if_pos (by omega)]; done) | (rw [if_neg (by omega), if_neg (by omega), if_neg (by omega), if_pos (by omega)]; done) | (rw [if_neg (by omega), if_neg (by omega), if_neg (by omega), if_neg (by omega), if_pos (by omega)]; done) | (rw [if_neg (by omega), if_neg (by omega), if_neg (by omega), if_neg (by omega), if_neg (by omega)]; done)) rfl (by omega) (by omega) dX7_valueOf_49
        · refine lv_iload_n hx hb dX7_valueOf_29 rfl (lv_at hl 0 rfl) ?_
          refine lv_bipush (v := nI 71) hx hb dX7_valueOf_30 (by decide) ?_
          refine lv_isub hx hb dX7_valueOf_32 (n_top (y := nI (x - 71)) (pk_sub (by omega)) ?_)
          subst hQ
          exact ret_i C hr hlocks h () trivial (by unfold valI; first | (rw [if_pos (by omega)]; done) | (rw [if_neg (by omega), if_pos (by omega)]; done) | (rw [if_neg (by omega), if_neg (by omega), if_pos (by omega)]; done) | (rw [if_neg (by omega), if_neg (by omega), if_neg (by omega), if_pos (by omega)]; done) | (rw [if_neg (by omega), if_neg (by omega), if_neg (by omega), if_neg (by omega), if_pos (by omega)]; done) | (rw [if_neg (by omega), if_neg (by omega), if_neg (by omega), if_neg (by omega), if_neg (by omega)]; done)) rfl (by omega) (by omega) dX7_valueOf_33
    · refine lv_iload_n hx hb dX7_valueOf_12 rfl (lv_at hl 0 rfl) ?_
      refine lv_bipush (v := nI 65) hx hb dX7_valueOf_13 (by decide) ?_
      refine lv_isub hx hb dX7_valueOf_15 (n_top (y := nI (x - 65)) (pk_sub (by omega)) ?_)
      subst hQ
      exact ret_i C hr hlocks h () trivial (by unfold valI; first | (rw [if_pos (by omega)]; done) | (rw [if_neg (by omega), if_pos (by omega)]; done) | (rw [if_neg (by omega), if_neg (by omega), if_pos (by omega)]; done) | (rw [if_neg (by omega), if_neg (by omega), if_neg (by omega), if_pos (by omega)]; done) | (rw [if_neg (by omega), if_neg (by omega), if_neg (by omega), if_neg (by omega), if_pos (by omega)]; done) | (rw [if_neg (by omega), if_neg (by omega), if_neg (by omega), if_neg (by omega), if_neg (by omega)]; done)) rfl (by omega) (by omega) dX7_valueOf_16
set_option maxHeartbeats 400000 in
set_option maxRecDepth 100000 in
theorem c7_signOf (l : Launch) (D : va_G) (dA : Nat → ClassId) (B : Nat) (Z : State → Prop) (hZ : Stab B Z) (ws : va_W) (v : Nat) (h1 : v < 1000) :
    Ct (S := Unit) l D dA B Z yX7_signOf cX7_signOf 1 (some .int) 1 0 0 [.int (nI v)] (ws) (fun _ => True) (fun _ => some (.int (nI (sgnN v)))) (fun _ => ws) := by
  refine Ct.mk2 (by decide) (Nat.le_of_ble_eq_true rfl) hZ ?_
  intro p e R s m args below meth c ls Q C hr hlocks hin hQ hl h
  have C0 := C
  obtain ⟨hx, hb, hml, hown, hts, -⟩ := C0
  have hl : lv_has ls 1 [(0, .int (nI v))] := hl
  refine lv_iload_n hx hb dX7_signOf_0 rfl (lv_at hl 0 rfl) ?_
  refine lv_bipush (v := nI 26) hx hb dX7_signOf_1 (by decide) ?_
  refine n_icmp_ge (tgt := 13) hx hb (by omega) (by omega) dX7_signOf_3 (by decide) (fun c3 => ?_) (fun c3 => ?_)
  · refine lv_iload_n hx hb dX7_signOf_13 rfl (lv_at hl 0 rfl) ?_
    refine lv_bipush (v := nI 52) hx hb dX7_signOf_14 (by decide) ?_
    refine n_icmp_ge (tgt := 26) hx hb (by omega) (by omega) dX7_signOf_16 (by decide) (fun c16 => ?_) (fun c16 => ?_)
    · refine lv_iload_n hx hb dX7_signOf_26 rfl (lv_at hl 0 rfl) ?_
      refine lv_bipush (v := nI 62) hx hb dX7_signOf_27 (by decide) ?_
      refine n_icmp_ge (tgt := 38) hx hb (by omega) (by omega) dX7_signOf_29 (by decide) (fun c29 => ?_) (fun c29 => ?_)
      · refine lv_iload_n hx hb dX7_signOf_38 rfl (lv_at hl 0 rfl) ?_
        refine lv_bipush (v := nI 62) hx hb dX7_signOf_39 (by decide) ?_
        refine n_icmp_ne (tgt := 49) hx hb (by omega) (by omega) dX7_signOf_41 (by decide) (fun c41 => ?_) (fun c41 => ?_)
        · refine lv_bipush (v := nI 47) hx hb dX7_signOf_49 (by decide) ?_
          subst hQ
          exact ret_i C hr hlocks h () trivial (by unfold sgnN; first | rw [if_pos (by omega)] | rw [if_neg (by omega), if_pos (by omega)] | rw [if_neg (by omega), if_neg (by omega), if_pos (by omega)] | rw [if_neg (by omega), if_neg (by omega), if_neg (by omega), if_pos (by omega)] | rw [if_neg (by omega), if_neg (by omega), if_neg (by omega), if_neg (by omega)]) rfl (by omega) (by omega) dX7_signOf_51
        · refine lv_bipush (v := nI 43) hx hb dX7_signOf_44 (by decide) ?_
          refine lv_goto (tgt := 51) hx hb dX7_signOf_46 (by decide) ?_
          subst hQ
          exact ret_i C hr hlocks h () trivial (by unfold sgnN; first | rw [if_pos (by omega)] | rw [if_neg (by omega), if_pos (by omega)] | rw [if_neg (by omega), if_neg (by omega), if_pos (by omega)] | rw [if_neg (by omega), if_neg (by omega), if_neg (by omega), if_pos (by omega)] | rw [if_neg (by omega), if_neg (by omega), if_neg (by omega), if_neg (by omega)]) rfl (by omega) (by omega) dX7_signOf_51
      · refine lv_iload_n hx hb dX7_signOf_32 rfl (lv_at hl 0 rfl) ?_
        refine lv_iconst (v := nI 4) hx hb dX7_signOf_33 (by decide) ?_
        refine lv_isub hx hb dX7_signOf_34 (n_top (y := nI (v - 4)) (pk_sub (by omega)) ?_)
        refine lv_goto (tgt := 51) hx hb dX7_signOf_35 (by decide) ?_
        subst hQ
        exact ret_i C hr hlocks h () trivial (by unfold sgnN; first | rw [if_pos (by omega)] | rw [if_neg (by omega), if_pos (by omega)] | rw [if_neg (by omega), if_neg (by omega), if_pos (by omega)] | rw [if_neg (by omega), if_neg (by omega), if_neg (by omega), if_pos (by omega)] | rw [if_neg (by omega), if_neg (by omega), if_neg (by omega), if_neg (by omega)]) rfl (by omega) (by omega) dX7_signOf_51
    · refine lv_bipush (v := nI 71) hx hb dX7_signOf_19 (by decide) ?_
      refine lv_iload_n hx hb dX7_signOf_21 rfl (lv_at hl 0 rfl) ?_
      refine lv_iadd hx hb dX7_signOf_22 (n_top (y := nI (71 + v)) (nI_add 71 v) ?_)
      refine lv_goto (tgt := 51) hx hb dX7_signOf_23 (by decide) ?_
      subst hQ
      exact ret_i C hr hlocks h () trivial (by unfold sgnN; first | rw [if_pos (by omega)] | rw [if_neg (by omega), if_pos (by omega)] | rw [if_neg (by omega), if_neg (by omega), if_pos (by omega)] | rw [if_neg (by omega), if_neg (by omega), if_neg (by omega), if_pos (by omega)] | rw [if_neg (by omega), if_neg (by omega), if_neg (by omega), if_neg (by omega)]) rfl (by omega) (by omega) dX7_signOf_51
  · refine lv_bipush (v := nI 65) hx hb dX7_signOf_6 (by decide) ?_
    refine lv_iload_n hx hb dX7_signOf_8 rfl (lv_at hl 0 rfl) ?_
    refine lv_iadd hx hb dX7_signOf_9 (n_top (y := nI (65 + v)) (nI_add 65 v) ?_)
    refine lv_goto (tgt := 51) hx hb dX7_signOf_10 (by decide) ?_
    subst hQ
    exact ret_i C hr hlocks h () trivial (by unfold sgnN; first | rw [if_pos (by omega)] | rw [if_neg (by omega), if_pos (by omega)] | rw [if_neg (by omega), if_neg (by omega), if_pos (by omega)] | rw [if_neg (by omega), if_neg (by omega), if_neg (by omega), if_pos (by omega)] | rw [if_neg (by omega), if_neg (by omega), if_neg (by omega), if_neg (by omega)]) rfl (by omega) (by omega) dX7_signOf_51
set_option maxHeartbeats 400000 in
set_option maxRecDepth 100000 in
theorem c7_sumOf (l : Launch) (D : va_G) (dA : Nat → ClassId) (B : Nat) (Z : State → Prop) (hZ : Stab B Z) (ws : va_W) (a n0 : Nat) (g : Nat → Nat) (n : Nat) (hm : (a, iar dA n0 g) ∈ ws) (h1 : n ≤ n0) (h2 : n0 < 1000000) (h3 : ∀ j, j < n → g j < 256) :
    Ct (S := Unit) l D dA B Z yX7_sumOf cX7_sumOf 5 (some .int) 1 0 0 [.ref a, .int (nI n)] (ws) (fun _ => True) (fun _ => some (.int (nI (crcS (sl g 0 n))))) (fun _ => ws) := by
  refine Ct.mk2 (by decide) (Nat.le_of_ble_eq_true rfl) hZ ?_
  intro p e R s m args below meth c ls Q C hr hlocks hin hQ hl h
  have C0 := C
  obtain ⟨hx, hb, hml, hown, hts, -⟩ := C0
  have hl : lv_has ls 5 [(0, .ref a), (1, .int (nI n))] := hl
  refine lv_ldc hx hb hown (hts _ q2172) dX7_sumOf_0 ?_
  refine n_top (y := nI 11994318) (by decide) ?_
  refine lv_istore_n (lv' := [(2, .int (nI 11994318)), (0, .ref a), (1, .int (nI n))]) hx hb dX7_sumOf_2 rfl hl (by decide) rfl (fun ls hl => ?_)
  refine lv_iconst (v := nI 0) hx hb dX7_sumOf_3 (by decide) ?_
  refine lv_istore_n (lv' := [(3, .int (nI 0)), (2, .int (nI 11994318)), (0, .ref a), (1, .int (nI n))]) hx hb dX7_sumOf_4 rfl hl (by decide) rfl (fun ls hl => ?_)
  have loop : ∀ (nn : Nat) (i : Nat), (i ≤ n) → n - i < nn → ∀ (H : Heap) (locs : List Loc), Wd D B s (ws) H locs → ∀ (ls : Array Slot), lv_has ls 5 [(3, .int (nI i)), (2, .int (nI (crcS (sl g 0 i)))), (0, .ref a), (1, .int (nI n))] → W p l e R s m args below meth c H locs 0 0 Q (F0 m 5 ls []) := by
    intro nn
    induction nn with
    | zero => intro i  hi0 hme; exact absurd hme (Nat.not_lt_zero _)
    | succ nn ih =>
      intro i  hi0 hme H locs h ls hl
      refine lv_iload_n hx hb dX7_sumOf_5 rfl (lv_at hl 0 rfl) ?_
      refine lv_iload_n hx hb dX7_sumOf_6 rfl (lv_at hl 3 rfl) ?_
      refine n_icmp_ge (tgt := 60) hx hb (by omega) (by omega) dX7_sumOf_7 (by decide) (fun c7 => ?_) (fun c7 => ?_)
      · refine lv_iload_n hx hb dX7_sumOf_60 rfl (lv_at hl 1 rfl) ?_
        subst hQ
        obtain rfl : i = n := by omega
        exact ret_i C hr hlocks h () trivial rfl rfl (by omega) (by omega) dX7_sumOf_61
      · have hg := h3 i (by omega)
        have hc : crcS (sl g 0 i) < 16777216 := crcS_lt (fun x hx => by
          unfold sl at hx
          obtain ⟨j, hj, rfl⟩ := List.mem_map.mp hx
          have := List.mem_range.mp hj
          exact h3 _ (by omega))
        refine lv_iload_n hx hb dX7_sumOf_10 rfl (lv_at hl 1 rfl) ?_
        refine lv_aload_n hx hb dX7_sumOf_11 rfl (lv_at hl 2 rfl) ?_
        refine lv_iload_n hx hb dX7_sumOf_12 rfl (lv_at hl 0 rfl) ?_
        refine n_iald C h (v := g i) (hm) (show i < n0 by omega) (by omega) rfl dX7_sumOf_13 ?_
        refine lv_ldc hx hb hown (hts _ q2173) dX7_sumOf_14 ?_
        refine n_top (y := nI 65536) (by decide) ?_
        refine lv_imul hx hb dX7_sumOf_16 (n_top (y := nI ((g i) * 65536)) (pk_mul (g i) 65536) ?_)
        refine lv_ixor hx hb dX7_sumOf_17 ?_
        refine n_top (y := nI (crcS (sl g 0 i) ^^^ (g i * 65536))) (nx_xor _ _) ?_
        refine lv_istore_n (lv' := [(2, .int (nI (crcS (sl g 0 i) ^^^ (g i * 65536)))), (3, .int (nI i)), (0, .ref a), (1, .int (nI n))]) hx hb dX7_sumOf_18 rfl hl (by decide) rfl (fun ls hl => ?_)
        refine lv_iconst (v := nI 0) hx hb dX7_sumOf_19 (by decide) ?_
        refine lv_istore (lv' := [(4, .int (nI 0)), (2, .int (nI (crcS (sl g 0 i) ^^^ (g i * 65536)))), (3, .int (nI i)), (0, .ref a), (1, .int (nI n))]) hx hb dX7_sumOf_20 hl (by decide) rfl (fun ls hl => ?_)
        have hx0 : crcS (sl g 0 i) ^^^ (g i * 65536) < 16777216 := Nat.xor_lt_two_pow (n := 24) hc (by omega)
        obtain ⟨z0, hz0⟩ : ∃ z, z = crcS (sl g 0 i) ^^^ (g i * 65536) := ⟨_, rfl⟩
        rw [← hz0] at hx0 hl
        have hl : lv_has ls 5 [(4, .int (nI 0)), (2, .int (nI (crcK 0 z0))), (3, .int (nI i)), (0, .ref a), (1, .int (nI n))] := hl
        have loopK : ∀ (nnK : Nat) (k : Nat), (k ≤ 8) → 8 - k < nnK → ∀ (H : Heap) (locs : List Loc), Wd D B s (ws) H locs → ∀ (ls : Array Slot), lv_has ls 5 [(4, .int (nI k)), (2, .int (nI (crcK k z0))), (3, .int (nI i)), (0, .ref a), (1, .int (nI n))] → W p l e R s m args below meth c H locs 0 0 Q (F0 m 22 ls []) := by
          intro nnK
          induction nnK with
          | zero => intro k  hk0 hme; exact absurd hme (Nat.not_lt_zero _)
          | succ nnK ihK =>
            intro k  hk0 hme H locs h ls hl
            refine lv_iload hx hb dX7_sumOf_22 (lv_at hl 0 rfl) ?_
            refine lv_bipush (v := nI 8) hx hb dX7_sumOf_24 (by decide) ?_
            refine n_icmp_ge (tgt := 54) hx hb (by omega) (by omega) dX7_sumOf_26 (by decide) (fun c26 => ?_) (fun c26 => ?_)
            · have hkk : crcK k z0 = crcS (sl g 0 (i + 1)) := by
                rw [show k = 8 by omega, sl_succ, Nat.zero_add, crcS_snoc, hz0]
              rw [hkk] at hl
              refine lv_iinc (v := nI (i + 1)) (lv' := [(3, .int (nI (i + 1))), (4, .int (nI k)), (2, .int (nI (crcS (sl g 0 (i + 1))))), (0, .ref a), (1, .int (nI n))]) hx hb dX7_sumOf_54 hl (k := 2) rfl (nI_add i 1) (by decide) rfl (fun ls hl => ?_)
              refine lv_goto (tgt := 5) hx hb dX7_sumOf_57 (by decide) ?_
              exact ih (i + 1) (by omega) (by omega) _ _ h _ (lv_sub hl [0, 2, 3, 4] rfl)
            · have hck := crcK_lt (k := k) hx0
              refine lv_iconst (v := nI 2) hx hb dX7_sumOf_29 (by decide) ?_
              refine lv_iload_n hx hb dX7_sumOf_30 rfl (lv_at hl 1 rfl) ?_
              refine lv_imul hx hb dX7_sumOf_31 (n_top (y := nI (2 * (crcK k z0))) (pk_mul 2 (crcK k z0)) ?_)
              refine lv_istore_n (lv' := [(2, .int (nI (2 * (crcK k z0)))), (4, .int (nI k)), (3, .int (nI i)), (0, .ref a), (1, .int (nI n))]) hx hb dX7_sumOf_32 rfl hl (by decide) rfl (fun ls hl => ?_)
              have jc : ∀ (H : Heap) (locs : List Loc), Wd D B s (ws) H locs → ∀ (ls : Array Slot), lv_has ls 5 [(2, .int (nI (2 * (crcK k z0)))), (4, .int (nI k)), (3, .int (nI i)), (0, .ref a), (1, .int (nI n))] → W p l e R s m args below meth c H locs 0 0 Q (F0 m 47 ls [.int (nI (crcK (k + 1) z0))]) := by
                intro   H locs h ls hl
                refine lv_istore_n (lv' := [(2, .int (nI (crcK (k + 1) z0))), (4, .int (nI k)), (3, .int (nI i)), (0, .ref a), (1, .int (nI n))]) hx hb dX7_sumOf_47 rfl hl (by decide) rfl (fun ls hl => ?_)
                refine lv_iinc (v := nI (k + 1)) (lv' := [(4, .int (nI (k + 1))), (2, .int (nI (crcK (k + 1) z0))), (3, .int (nI i)), (0, .ref a), (1, .int (nI n))]) hx hb dX7_sumOf_48 hl (k := 1) rfl (nI_add k 1) (by decide) rfl (fun ls hl => ?_)
                refine lv_goto (tgt := 22) hx hb dX7_sumOf_51 (by decide) ?_
                exact ihK (k + 1) (by omega) (by omega) _ _ h _ (lv_sub hl [0, 1, 2, 3, 4] rfl)
              refine lv_iload_n hx hb dX7_sumOf_33 rfl (lv_at hl 0 rfl) ?_
              refine lv_ldc hx hb hown (hts _ q2174) dX7_sumOf_34 ?_
              refine n_top (y := nI 16777216) (by decide) ?_
              refine n_icmp_lt (tgt := 46) hx hb (by omega) (by omega) dX7_sumOf_36 (by decide) (fun c36 => ?_) (fun c36 => ?_)
              · refine lv_iload_n hx hb dX7_sumOf_46 rfl (lv_at hl 0 rfl) ?_
                refine n_top (y := nI (crcK (k + 1) z0)) (by rw [show crcK (k + 1) z0 = crc1 (crcK k z0) from rfl]; unfold crc1; rw [if_neg (by omega)]) ?_
                exact jc   _ _ h _ (lv_sub hl [0, 1, 2, 3, 4] rfl)
              · refine lv_iload_n hx hb dX7_sumOf_39 rfl (lv_at hl 0 rfl) ?_
                refine lv_ldc hx hb hown (hts _ q2175) dX7_sumOf_40 ?_
                refine n_top (y := nI 25578747) (by decide) ?_
                refine lv_ixor hx hb dX7_sumOf_42 ?_
                refine lv_goto (tgt := 47) hx hb dX7_sumOf_43 (by decide) ?_
                refine n_top (y := nI (crcK (k + 1) z0)) (by rw [nx_xor, show crcK (k + 1) z0 = crc1 (crcK k z0) from rfl]; unfold crc1; rw [if_pos (by omega)]) ?_
                exact jc   _ _ h _ (lv_sub hl [0, 1, 2, 3, 4] rfl)
        exact loopK _ 0 (by omega) (Nat.lt_succ_self _) _ _ h _ (lv_sub hl [0, 1, 2, 3, 4] rfl)
  exact loop _ 0 (by omega) (Nat.lt_succ_self _) _ _ h _ (lv_sub hl [0, 1, 2, 3] rfl)
set_option maxHeartbeats 400000 in
set_option maxRecDepth 100000 in
theorem c7_sign (l : Launch) (D : va_G) (dA : Nat → ClassId) (B : Nat) (Z : State → Prop) (hZ : Stab B Z) (h0 : Nat) (ad : Nat → Nat) (M : MS) (F : va_W) (tx : List Nat) (u : LU) (k : Nat) (hsz : mI M 35 = nI tx.length) (htx : mR M 34 = some (ad 2)) (hT : ∀ j, j < tx.length → mG M 2 j = gD tx j) (htl : tx.length ≤ 4096) (hby : byt tx) (hk : u.2.2.1 + k < tx.length) :
    Ct (S := Unit) l D dA B Z yX7_sign cX7_sign 3 (some .int) 3 0 0 [.ref h0, .int (nI k)] (mw dA h0 ad (lM M u.1 (nI u.2.1) (nI u.2.2.1) (nI u.2.2.2)) ++ F) (fun _ => True) (fun _ => some (.int (valI (gD tx (u.2.2.1 + k))))) (fun _ => mw dA h0 ad (lM M (if valI (gD tx (u.2.2.1 + k)) = -1 then failT u.1 (-100000 - nI u.2.2.1) else u.1) (nI u.2.1) (nI u.2.2.1) (nI u.2.2.2)) ++ F) := by
  refine Ct.mk2 (by decide) (Nat.le_of_ble_eq_true rfl) hZ ?_
  intro p e R s m args below meth c ls Q C hr hlocks hin hQ hl h
  have C0 := C
  obtain ⟨hx, hb, hml, hown, hts, -⟩ := C0
  have hl : lv_has ls 3 [(0, .ref h0), (1, .int (nI k))] := hl
  refine lv_aload_n hx hb dX7_sign_0 rfl (lv_at hl 0 rfl) ?_
  refine m_gr C h 34 (by decide) rfl rfl q1904 (v := some (ad 2)) htx dX7_sign_1 ?_
  refine lv_aload_n hx hb dX7_sign_4 rfl (lv_at hl 0 rfl) ?_
  refine m_gi C h 37 (by decide) rfl rfl q1907 (v := nI u.2.2.1) rfl dX7_sign_5 ?_
  refine lv_iload_n hx hb dX7_sign_8 rfl (lv_at hl 1 rfl) ?_
  refine lv_iadd hx hb dX7_sign_9 (n_top (y := nI (u.2.2.1 + k)) (nI_add u.2.2.1 k) ?_)
  refine n_iald C h (v := (mG (lM M u.1 (nI u.2.1) (nI u.2.2.1) (nI u.2.2.2)) 2) (u.2.2.1 + k)) (mw_memG (k := 2) (by decide)) (show u.2.2.1 + k < 4096 by omega) (by decide) rfl dX7_sign_10 ?_
  refine n_top (y := nI (gD tx (u.2.2.1 + k))) (congrArg nI (hT _ hk)) ?_
  have hb1 := byt_gD hby (u.2.2.1 + k)
  refine call_S (As := [.int (nI (gD tx (u.2.2.1 + k)))]) (rest := []) (n := 1) C h (c7_valueOf l D dA B Z hZ _ (gD tx (u.2.2.1 + k)) (by omega)) (lw_S q2166 q2167 q138 q2168) (by decide +kernel) (by decide) (by decide) rfl hl rfl (Nat.le_of_ble_eq_true rfl) dX7_sign_11 (by omega) (fun _ H locs _ h => ?_)
  refine lv_istore_n (lv' := [(2, .int (valI (gD tx (u.2.2.1 + k)))), (0, .ref h0), (1, .int (nI k))]) hx hb dX7_sign_14 rfl hl (by decide) rfl (fun ls hl => ?_)
  refine lv_iload_n hx hb dX7_sign_15 rfl (lv_at hl 0 rfl) ?_
  refine lv_iconst (v := -1) hx hb dX7_sign_16 (by decide) ?_
  refine lv_icmp_ne (tgt := 28) hx hb dX7_sign_17 (by decide) (fun c17 => ?_) (fun c17 => ?_)
  · refine lv_iload_n hx hb dX7_sign_28 rfl (lv_at hl 0 rfl) ?_
    subst hQ
    exact ret_i C hr hlocks h () trivial rfl (by first | (rw [if_neg c17]) | (rw [if_pos c17]; rfl)) (by omega) (by omega) dX7_sign_29
  · refine lv_aload_n hx hb dX7_sign_20 rfl (lv_at hl 1 rfl) ?_
    refine lv_aload_n hx hb dX7_sign_21 rfl (lv_at hl 1 rfl) ?_
    refine m_gi C h 37 (by decide) rfl rfl q1907 (v := nI u.2.2.1) rfl dX7_sign_22 ?_
    refine call_V (As := [.int (nI u.2.2.1)]) (rest := []) (n := 1) C h (c7_failLine l D dA B Z hZ h0 ad (lM M u.1 (nI u.2.1) (nI u.2.2.1) (nI u.2.2.2)) F u.2.2.1) (lw_V q2120 q2122 qs46 q138 q2123) (by decide +kernel) (ci := 5) rfl rfl mw_mem0 (by decide) (by decide) rfl hl rfl (Nat.le_of_ble_eq_true rfl) dX7_sign_25 (by omega) (fun _ H locs _ h => ?_)
    rw [lM_33] at h
    refine lv_iload_n hx hb dX7_sign_28 rfl (lv_at hl 0 rfl) ?_
    subst hQ
    exact ret_i C hr hlocks h () trivial rfl (by first | (rw [if_neg c17]) | (rw [if_pos c17]; rfl)) (by omega) (by omega) dX7_sign_29
set_option maxHeartbeats 400000 in
set_option maxRecDepth 100000 in
theorem c7_isOurs (l : Launch) (D : va_G) (dA : Nat → ClassId) (B : Nat) (Z : State → Prop) (hZ : Stab B Z) (ws : va_W) (a : Nat) (lb : List Nat) (hm : (a, ial dA lb) ∈ ws) (h1 : 0 < lb.length) (h2 : lb.length < 1000000) (hby : byt lb) :
    Ct (S := Unit) l D dA B Z yX7_isOurs cX7_isOurs 1 (some .boolean) 1 0 0 [.ref a] (ws) (fun _ => True) (fun _ => some (.int (bZ (oursL lb)))) (fun _ => ws) := by
  refine Ct.mk2 (by decide) (Nat.le_of_ble_eq_true rfl) hZ ?_
  intro p e R s m args below meth c ls Q C hr hlocks hin hQ hl h
  have C0 := C
  obtain ⟨hx, hb, hml, hown, hts, -⟩ := C0
  have hl : lv_has ls 1 [(0, .ref a)] := hl
  have hg0 := byt_gD hby 0
  have hg2 := byt_gD hby 2
  have hg3 := byt_gD hby 3
  have jn : ∀ (tjn : Bool), (tjn = oursL lb) → ∀ (H : Heap) (locs : List Loc), Wd D B s (ws) H locs → ∀ (ls : Array Slot), lv_has ls 1 [(0, .ref a)] → W p l e R s m args below meth c H locs 0 0 Q (F0 m 40 ls [.int (bZ tjn)]) := by
    intro tjn  hjn H locs h ls hl
    subst hQ
    subst hjn
    exact ret_z C hr hlocks h () trivial rfl rfl (by omega) (by omega) dX7_isOurs_40
  refine lv_aload_n hx hb dX7_isOurs_0 rfl (lv_at hl 0 rfl) ?_
  refine lv_iconst (v := nI 0) hx hb dX7_isOurs_1 (by decide) ?_
  refine n_iald C h (v := (gD lb) 0) (hm) (show 0 < lb.length by omega) (by omega) rfl dX7_isOurs_2 ?_
  refine lv_iconst (v := nI 4) hx hb dX7_isOurs_3 (by decide) ?_
  refine n_icmp_ne (tgt := 39) hx hb (by omega) (by omega) dX7_isOurs_4 (by decide) (fun c4 => ?_) (fun c4 => ?_)
  · refine lv_iconst (v := nI 0) hx hb dX7_isOurs_39 (by decide) ?_
    refine n_top (y := bZ false) rfl ?_
    exact jn false (by unfold oursL; simp [*]; try omega) _ _ h _ (lv_sub hl [0] rfl)
  · refine lv_aload_n hx hb dX7_isOurs_7 rfl (lv_at hl 0 rfl) ?_
    refine n_alen C h (hm) dX7_isOurs_8 ?_
    refine lv_iconst (v := nI 4) hx hb dX7_isOurs_9 (by decide) ?_
    refine n_icmp_lt (tgt := 35) hx hb (by omega) (by omega) dX7_isOurs_10 (by decide) (fun c10 => ?_) (fun c10 => ?_)
    · refine lv_iconst (v := nI 1) hx hb dX7_isOurs_35 (by decide) ?_
      refine lv_goto (tgt := 40) hx hb dX7_isOurs_36 (by decide) ?_
      refine n_top (y := bZ true) rfl ?_
      exact jn true (by unfold oursL; simp [*]) _ _ h _ (lv_sub hl [0] rfl)
    · refine lv_aload_n hx hb dX7_isOurs_13 rfl (lv_at hl 0 rfl) ?_
      refine lv_iconst (v := nI 2) hx hb dX7_isOurs_14 (by decide) ?_
      refine n_iald C h (v := (gD lb) 2) (hm) (show 2 < lb.length by omega) (by omega) rfl dX7_isOurs_15 ?_
      refine lv_iconst (v := nI 1) hx hb dX7_isOurs_16 (by decide) ?_
      refine n_icmp_ne (tgt := 39) hx hb (by omega) (by omega) dX7_isOurs_17 (by decide) (fun c17 => ?_) (fun c17 => ?_)
      · refine lv_iconst (v := nI 0) hx hb dX7_isOurs_39 (by decide) ?_
        refine n_top (y := bZ false) rfl ?_
        exact jn false (by unfold oursL; simp [*]; try omega) _ _ h _ (lv_sub hl [0] rfl)
      · refine lv_aload_n hx hb dX7_isOurs_20 rfl (lv_at hl 0 rfl) ?_
        refine lv_iconst (v := nI 3) hx hb dX7_isOurs_21 (by decide) ?_
        refine n_iald C h (v := (gD lb) 3) (hm) (show 3 < lb.length by omega) (by omega) rfl dX7_isOurs_22 ?_
        refine lv_iconst (v := nI 2) hx hb dX7_isOurs_23 (by decide) ?_
        refine n_icmp_eq (tgt := 35) hx hb (by omega) (by omega) dX7_isOurs_24 (by decide) (fun c24 => ?_) (fun c24 => ?_)
        · refine lv_iconst (v := nI 1) hx hb dX7_isOurs_35 (by decide) ?_
          refine lv_goto (tgt := 40) hx hb dX7_isOurs_36 (by decide) ?_
          refine n_top (y := bZ true) rfl ?_
          exact jn true (by unfold oursL; simp [*]) _ _ h _ (lv_sub hl [0] rfl)
        · refine lv_aload_n hx hb dX7_isOurs_27 rfl (lv_at hl 0 rfl) ?_
          refine lv_iconst (v := nI 3) hx hb dX7_isOurs_28 (by decide) ?_
          refine n_iald C h (v := (gD lb) 3) (hm) (show 3 < lb.length by omega) (by omega) rfl dX7_isOurs_29 ?_
          refine lv_bipush (v := nI 8) hx hb dX7_isOurs_30 (by decide) ?_
          refine n_icmp_ne (tgt := 39) hx hb (by omega) (by omega) dX7_isOurs_32 (by decide) (fun c32 => ?_) (fun c32 => ?_)
          · refine lv_iconst (v := nI 0) hx hb dX7_isOurs_39 (by decide) ?_
            refine n_top (y := bZ false) rfl ?_
            exact jn false (by unfold oursL; simp [*]; try omega) _ _ h _ (lv_sub hl [0] rfl)
          · refine lv_iconst (v := nI 1) hx hb dX7_isOurs_35 (by decide) ?_
            refine lv_goto (tgt := 40) hx hb dX7_isOurs_36 (by decide) ?_
            refine n_top (y := bZ true) rfl ?_
            exact jn true (by unfold oursL; simp [*]) _ _ h _ (lv_sub hl [0] rfl)
