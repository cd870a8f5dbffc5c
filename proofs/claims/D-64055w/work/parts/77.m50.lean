set_option maxRecDepth 100000
theorem all74 (P : Nat → Prop) (h : P 0 ∧ P 1 ∧ P 2 ∧ P 3 ∧ P 4 ∧ P 5 ∧ P 6 ∧ P 7 ∧ P 8 ∧ P 9 ∧ P 10 ∧ P 11 ∧ P 12 ∧ P 13 ∧ P 14 ∧ P 15 ∧ P 16 ∧ P 17 ∧ P 18 ∧ P 19 ∧ P 20 ∧ P 21 ∧ P 22 ∧ P 23 ∧ P 24 ∧ P 25 ∧ P 26 ∧ P 27 ∧ P 28 ∧ P 29 ∧ P 30 ∧ P 31 ∧ P 32 ∧ P 33 ∧ P 34 ∧ P 35 ∧ P 36 ∧ P 37 ∧ P 38 ∧ P 39 ∧ P 40 ∧ P 41 ∧ P 42 ∧ P 43 ∧ P 44 ∧ P 45 ∧ P 46 ∧ P 47 ∧ P 48 ∧ P 49 ∧ P 50 ∧ P 51 ∧ P 52 ∧ P 53 ∧ P 54 ∧ P 55 ∧ P 56 ∧ P 57 ∧ P 58 ∧ P 59 ∧ P 60 ∧ P 61 ∧ P 62 ∧ P 63 ∧ P 64 ∧ P 65 ∧ P 66 ∧ P 67 ∧ P 68 ∧ P 69 ∧ P 70 ∧ P 71 ∧ P 72 ∧ P 73) : ∀ k, k < 74 → P k := by
  obtain ⟨h0, h1, h2, h3, h4, h5, h6, h7, h8, h9, h10, h11, h12, h13, h14, h15, h16, h17, h18, h19, h20, h21, h22, h23, h24, h25, h26, h27, h28, h29, h30, h31, h32, h33, h34, h35, h36, h37, h38, h39, h40, h41, h42, h43, h44, h45, h46, h47, h48, h49, h50, h51, h52, h53, h54, h55, h56, h57, h58, h59, h60, h61, h62, h63, h64, h65, h66, h67, h68, h69, h70, h71, h72, h73⟩ := h
  intro k hk
  match k, hk with
  | 0, _ => exact h0
  | 1, _ => exact h1
  | 2, _ => exact h2
  | 3, _ => exact h3
  | 4, _ => exact h4
  | 5, _ => exact h5
  | 6, _ => exact h6
  | 7, _ => exact h7
  | 8, _ => exact h8
  | 9, _ => exact h9
  | 10, _ => exact h10
  | 11, _ => exact h11
  | 12, _ => exact h12
  | 13, _ => exact h13
  | 14, _ => exact h14
  | 15, _ => exact h15
  | 16, _ => exact h16
  | 17, _ => exact h17
  | 18, _ => exact h18
  | 19, _ => exact h19
  | 20, _ => exact h20
  | 21, _ => exact h21
  | 22, _ => exact h22
  | 23, _ => exact h23
  | 24, _ => exact h24
  | 25, _ => exact h25
  | 26, _ => exact h26
  | 27, _ => exact h27
  | 28, _ => exact h28
  | 29, _ => exact h29
  | 30, _ => exact h30
  | 31, _ => exact h31
  | 32, _ => exact h32
  | 33, _ => exact h33
  | 34, _ => exact h34
  | 35, _ => exact h35
  | 36, _ => exact h36
  | 37, _ => exact h37
  | 38, _ => exact h38
  | 39, _ => exact h39
  | 40, _ => exact h40
  | 41, _ => exact h41
  | 42, _ => exact h42
  | 43, _ => exact h43
  | 44, _ => exact h44
  | 45, _ => exact h45
  | 46, _ => exact h46
  | 47, _ => exact h47
  | 48, _ => exact h48
  | 49, _ => exact h49
  | 50, _ => exact h50
  | 51, _ => exact h51
  | 52, _ => exact h52
  | 53, _ => exact h53
  | 54, _ => exact h54
  | 55, _ => exact h55
  | 56, _ => exact h56
  | 57, _ => exact h57
  | 58, _ => exact h58
  | 59, _ => exact h59
  | 60, _ => exact h60
  | 61, _ => exact h61
  | 62, _ => exact h62
  | 63, _ => exact h63
  | 64, _ => exact h64
  | 65, _ => exact h65
  | 66, _ => exact h66
  | 67, _ => exact h67
  | 68, _ => exact h68
  | 69, _ => exact h69
  | 70, _ => exact h70
  | 71, _ => exact h71
  | 72, _ => exact h72
  | 73, _ => exact h73
  | k + 74, hk => exact absurd hk (by omega)
set_option maxRecDepth 100000 in
set_option maxHeartbeats 2000000 in
theorem mf_fin (q1 q2 q3 q4 q5 q6 q7 q8 q9 q10 q11 q12 q13 q14 q15 q16 q17 q18 q19 q20 q21 q22 q23 q24 q25 : Nat) (k : Nat) (hk : k < 74) : (upN (upN (upN (upN (upN (upN (upN (upN (upN (upN (upN (upN (upN (upN (upN (upN (upN (upN (upN (upN (upN (upN (upN (upN (upN (mf0) 2 (.ref q1)) 4 (.ref q2)) 6 (.ref q3)) 7 (.ref q4)) 8 (.ref q5)) 9 (.ref q6)) 11 (.ref q7)) 13 (.ref q8)) 14 (.ref q9)) 15 (.ref q10)) 17 (.ref q11)) 18 (.ref q12)) 19 (.ref q13)) 21 (.ref q14)) 22 (.ref q15)) 23 (.ref q16)) 24 (.ref q17)) 25 (.ref q18)) 27 (.ref q19)) 28 (.ref q20)) 30 (.ref q21)) 31 (.ref q22)) 32 (.ref q23)) 46 (.ref q24)) 70 (.ref q25)) k = mfv (fun k => bif Nat.beq k 2 then q1 else bif Nat.beq k 4 then q2 else bif Nat.beq k 6 then q3 else bif Nat.beq k 7 then q4 else bif Nat.beq k 8 then q5 else bif Nat.beq k 9 then q6 else bif Nat.beq k 11 then q7 else bif Nat.beq k 13 then q8 else bif Nat.beq k 14 then q9 else bif Nat.beq k 15 then q10 else bif Nat.beq k 17 then q11 else bif Nat.beq k 18 then q12 else bif Nat.beq k 19 then q13 else bif Nat.beq k 21 then q14 else bif Nat.beq k 22 then q15 else bif Nat.beq k 23 then q16 else bif Nat.beq k 24 then q17 else bif Nat.beq k 25 then q18 else bif Nat.beq k 27 then q19 else bif Nat.beq k 28 then q20 else bif Nat.beq k 30 then q21 else bif Nat.beq k 31 then q22 else bif Nat.beq k 32 then q23 else bif Nat.beq k 46 then q24 else bif Nat.beq k 70 then q25 else 0) (mz (fun k => bif Nat.beq k 2 then q1 else bif Nat.beq k 4 then q2 else bif Nat.beq k 6 then q3 else bif Nat.beq k 7 then q4 else bif Nat.beq k 8 then q5 else bif Nat.beq k 9 then q6 else bif Nat.beq k 11 then q7 else bif Nat.beq k 13 then q8 else bif Nat.beq k 14 then q9 else bif Nat.beq k 15 then q10 else bif Nat.beq k 17 then q11 else bif Nat.beq k 18 then q12 else bif Nat.beq k 19 then q13 else bif Nat.beq k 21 then q14 else bif Nat.beq k 22 then q15 else bif Nat.beq k 23 then q16 else bif Nat.beq k 24 then q17 else bif Nat.beq k 25 then q18 else bif Nat.beq k 27 then q19 else bif Nat.beq k 28 then q20 else bif Nat.beq k 30 then q21 else bif Nat.beq k 31 then q22 else bif Nat.beq k 32 then q23 else bif Nat.beq k 46 then q24 else bif Nat.beq k 70 then q25 else 0)) k := by
  revert k
  refine all74 _ ?_
  exact ⟨rfl, rfl, rfl, rfl, rfl, rfl, rfl, rfl, rfl, rfl, rfl, rfl, rfl, rfl, rfl, rfl, rfl, rfl, rfl, rfl, rfl, rfl, rfl, rfl, rfl, rfl, rfl, rfl, rfl, rfl, rfl, rfl, rfl, rfl, rfl, rfl, rfl, rfl, rfl, rfl, rfl, rfl, rfl, rfl, rfl, rfl, rfl, rfl, rfl, rfl, rfl, rfl, rfl, rfl, rfl, rfl, rfl, rfl, rfl, rfl, rfl, rfl, rfl, rfl, rfl, rfl, rfl, rfl, rfl, rfl, rfl, rfl, rfl, rfl⟩
set_option maxHeartbeats 4000000 in
theorem mw_perm (dA : Nat → ClassId) (h0 : Nat) (ad : Nat → Nat) (F : va_W) : (([(h0, .inr (5, flv 74 (mfv ad (mz ad))))] : va_W) ++ (F ++ [(ad 2, iar dA 4096 (fun _ => 0))] ++ [(ad 4, iar dA 4096 (fun _ => 0))] ++ [(ad 6, iar dA 4096 (fun _ => 0))] ++ [(ad 7, iar dA 4096 (fun _ => 0))] ++ [(ad 8, iar dA 4097 (fun _ => 0))] ++ [(ad 9, iar dA 8000 (fun _ => 0))] ++ [(ad 11, iar dA 60000 (fun _ => 0))] ++ [(ad 13, iar dA 4700 (fun _ => 0))] ++ [(ad 14, aar dA 4700 (fun _ => none))] ++ [(ad 15, aar dA 4700 (fun _ => none))] ++ [(ad 17, iar dA 4700 (fun _ => 0))] ++ [(ad 18, aar dA 4700 (fun _ => none))] ++ [(ad 19, aar dA 4700 (fun _ => none))] ++ [(ad 21, iar dA 30000 (fun _ => 0))] ++ [(ad 22, iar dA 32 (fun _ => 0))] ++ [(ad 23, iar dA 80 (fun _ => 0))] ++ [(ad 24, iar dA 8 (fun _ => 0))] ++ [(ad 25, iar dA 8 (fun _ => 0))] ++ [(ad 27, lar dA 40 (fun _ => 0))] ++ [(ad 28, lar dA 42 (fun _ => 0))] ++ [(ad 30, lar dA 40 (fun _ => 0))] ++ [(ad 31, lar dA 40 (fun _ => 0))] ++ [(ad 32, lar dA 40 (fun _ => 0))] ++ [(ad 46, iar dA 5000 (fun _ => 0))] ++ [(ad 70, zar dA 3 (fun _ => 0))])).Perm (mw dA h0 ad (mz ad) ++ F) := by
  have e : mw dA h0 ad (mz ad) = [(h0, .inr (5, flv 74 (mfv ad (mz ad))))] ++ [(ad 2, iar dA 4096 (fun _ => 0)), (ad 4, iar dA 4096 (fun _ => 0)), (ad 6, iar dA 4096 (fun _ => 0)), (ad 7, iar dA 4096 (fun _ => 0)), (ad 8, iar dA 4097 (fun _ => 0)), (ad 9, iar dA 8000 (fun _ => 0)), (ad 11, iar dA 60000 (fun _ => 0)), (ad 21, iar dA 30000 (fun _ => 0)), (ad 22, iar dA 32 (fun _ => 0)), (ad 46, iar dA 5000 (fun _ => 0)), (ad 13, iar dA 4700 (fun _ => 0)), (ad 17, iar dA 4700 (fun _ => 0)), (ad 23, iar dA 80 (fun _ => 0)), (ad 24, iar dA 8 (fun _ => 0)), (ad 25, iar dA 8 (fun _ => 0)), (ad 27, lar dA 40 (fun _ => 0)), (ad 28, lar dA 42 (fun _ => 0)), (ad 30, lar dA 40 (fun _ => 0)), (ad 31, lar dA 40 (fun _ => 0)), (ad 32, lar dA 40 (fun _ => 0)), (ad 70, zar dA 3 (fun _ => 0)), (ad 14, aar dA 4700 (fun _ => none)), (ad 15, aar dA 4700 (fun _ => none)), (ad 18, aar dA 4700 (fun _ => none)), (ad 19, aar dA 4700 (fun _ => none))] := rfl
  rw [e]
  exact perm_add (fun g f p0 p1 p2 => by (try simp only [p0, p1, p2]) <;> omega)
set_option maxHeartbeats 400000 in
set_option maxRecDepth 100000 in
theorem c7_init (l : Launch) (D : va_G) (dA : Nat → ClassId) (B : Nat) (Z : State → Prop) (hZ : Stab B Z) (h0 : Nat) (F : va_W) (hzs : ZS dA B Z) :
    Ct (S := Nat → Nat) l D dA B Z yX7_init cX7_init 1 none 2 25 200000 [.ref h0] ([(h0, .inr (5, flv 74 mf0))] ++ F) (fun _ => True) (fun _ => none) (fun ad => mw dA h0 ad (mz ad) ++ F) := by
  refine Ct.mk2 (by decide) (Nat.le_of_ble_eq_true rfl) hZ ?_
  intro p e R s m args below meth c ls Q C hr hlocks hin hQ hl h
  have C0 := C
  obtain ⟨hx, hb, hml, hown, hts, -⟩ := C0
  have hl : lv_has ls 1 [(0, .ref h0)] := hl
  have hini := hin rfl
  refine lv_aload_n hx hb dX7_init_0 rfl (lv_at hl 0 rfl) ?_
  have h : Wd D B s ([(h0, .inr (5, flv 74 mf0))] ++ F) s.heap [] := h
  refine o_init C h q1866 hl.1 (by decide) (Nat.le_of_ble_eq_true rfl) dX7_init_1 ?_
  refine lv_aload_n hx hb dX7_init_4 rfl (lv_at hl 0 rfl) ?_
  refine lv_sipush (v := nI 4096) hx hb dX7_init_5 (by decide) ?_
  refine n_newa C h (n := 4096) (by decide) (by omega) (by omega) dX7_init_8 (fun q1 H h => ?_)
  obtain ⟨X1, hX1⟩ : ∃ z, z = F ++ [(q1, iar dA 4096 (fun _ => 0))] := ⟨_, rfl⟩
  have h : Wd D B s ([(h0, .inr (5, flv 74 (mf0)))] ++ X1) H [] := by rw [hX1, ← List.append_assoc]; exact h
  refine c_put C h 2 (by decide) hini rfl q1872 rfl rfl dX7_init_10 (fun H locs h => ?_)
  obtain ⟨f1, hf1⟩ : ∃ z, z = upN mf0 2 (.ref q1) := ⟨_, rfl⟩
  rw [← hf1] at h
  have h : Wd D B s ([(h0, .inr (5, flv 74 (f1)))] ++ X1) H locs := h
  refine lv_aload_n hx hb dX7_init_13 rfl (lv_at hl 0 rfl) ?_
  refine lv_sipush (v := nI 4096) hx hb dX7_init_14 (by decide) ?_
  refine n_newa C h (n := 4096) (by decide) (by omega) (by omega) dX7_init_17 (fun q2 H h => ?_)
  obtain ⟨X2, hX2⟩ : ∃ z, z = X1 ++ [(q2, iar dA 4096 (fun _ => 0))] := ⟨_, rfl⟩
  have h : Wd D B s ([(h0, .inr (5, flv 74 (f1)))] ++ X2) H locs := by rw [hX2, ← List.append_assoc]; exact h
  refine c_put C h 4 (by decide) hini rfl q1874 rfl rfl dX7_init_19 (fun H locs h => ?_)
  obtain ⟨f2, hf2⟩ : ∃ z, z = upN f1 4 (.ref q2) := ⟨_, rfl⟩
  rw [← hf2] at h
  have h : Wd D B s ([(h0, .inr (5, flv 74 (f2)))] ++ X2) H locs := h
  refine lv_aload_n hx hb dX7_init_22 rfl (lv_at hl 0 rfl) ?_
  refine lv_sipush (v := nI 4096) hx hb dX7_init_23 (by decide) ?_
  refine n_newa C h (n := 4096) (by decide) (by omega) (by omega) dX7_init_26 (fun q3 H h => ?_)
  obtain ⟨X3, hX3⟩ : ∃ z, z = X2 ++ [(q3, iar dA 4096 (fun _ => 0))] := ⟨_, rfl⟩
  have h : Wd D B s ([(h0, .inr (5, flv 74 (f2)))] ++ X3) H locs := by rw [hX3, ← List.append_assoc]; exact h
  refine c_put C h 6 (by decide) hini rfl q1876 rfl rfl dX7_init_28 (fun H locs h => ?_)
  obtain ⟨f3, hf3⟩ : ∃ z, z = upN f2 6 (.ref q3) := ⟨_, rfl⟩
  rw [← hf3] at h
  have h : Wd D B s ([(h0, .inr (5, flv 74 (f3)))] ++ X3) H locs := h
  refine lv_aload_n hx hb dX7_init_31 rfl (lv_at hl 0 rfl) ?_
  refine lv_sipush (v := nI 4096) hx hb dX7_init_32 (by decide) ?_
  refine n_newa C h (n := 4096) (by decide) (by omega) (by omega) dX7_init_35 (fun q4 H h => ?_)
  obtain ⟨X4, hX4⟩ : ∃ z, z = X3 ++ [(q4, iar dA 4096 (fun _ => 0))] := ⟨_, rfl⟩
  have h : Wd D B s ([(h0, .inr (5, flv 74 (f3)))] ++ X4) H locs := by rw [hX4, ← List.append_assoc]; exact h
  refine c_put C h 7 (by decide) hini rfl q1877 rfl rfl dX7_init_37 (fun H locs h => ?_)
  obtain ⟨f4, hf4⟩ : ∃ z, z = upN f3 7 (.ref q4) := ⟨_, rfl⟩
  rw [← hf4] at h
  have h : Wd D B s ([(h0, .inr (5, flv 74 (f4)))] ++ X4) H locs := h
  refine lv_aload_n hx hb dX7_init_40 rfl (lv_at hl 0 rfl) ?_
  refine lv_sipush (v := nI 4097) hx hb dX7_init_41 (by decide) ?_
  refine n_newa C h (n := 4097) (by decide) (by omega) (by omega) dX7_init_44 (fun q5 H h => ?_)
  obtain ⟨X5, hX5⟩ : ∃ z, z = X4 ++ [(q5, iar dA 4097 (fun _ => 0))] := ⟨_, rfl⟩
  have h : Wd D B s ([(h0, .inr (5, flv 74 (f4)))] ++ X5) H locs := by rw [hX5, ← List.append_assoc]; exact h
  refine c_put C h 8 (by decide) hini rfl q1878 rfl rfl dX7_init_46 (fun H locs h => ?_)
  obtain ⟨f5, hf5⟩ : ∃ z, z = upN f4 8 (.ref q5) := ⟨_, rfl⟩
  rw [← hf5] at h
  have h : Wd D B s ([(h0, .inr (5, flv 74 (f5)))] ++ X5) H locs := h
  refine lv_aload_n hx hb dX7_init_49 rfl (lv_at hl 0 rfl) ?_
  refine lv_sipush (v := nI 8000) hx hb dX7_init_50 (by decide) ?_
  refine n_newa C h (n := 8000) (by decide) (by omega) (by omega) dX7_init_53 (fun q6 H h => ?_)
  obtain ⟨X6, hX6⟩ : ∃ z, z = X5 ++ [(q6, iar dA 8000 (fun _ => 0))] := ⟨_, rfl⟩
  have h : Wd D B s ([(h0, .inr (5, flv 74 (f5)))] ++ X6) H locs := by rw [hX6, ← List.append_assoc]; exact h
  refine c_put C h 9 (by decide) hini rfl q1879 rfl rfl dX7_init_55 (fun H locs h => ?_)
  obtain ⟨f6, hf6⟩ : ∃ z, z = upN f5 9 (.ref q6) := ⟨_, rfl⟩
  rw [← hf6] at h
  have h : Wd D B s ([(h0, .inr (5, flv 74 (f6)))] ++ X6) H locs := h
  refine lv_aload_n hx hb dX7_init_58 rfl (lv_at hl 0 rfl) ?_
  refine lv_ldc hx hb hown (hts _ q1867) dX7_init_59 ?_
  refine n_top (y := nI 60000) (by decide) ?_
  refine n_newa C h (n := 60000) (by decide) (by omega) (by omega) dX7_init_61 (fun q7 H h => ?_)
  obtain ⟨X7, hX7⟩ : ∃ z, z = X6 ++ [(q7, iar dA 60000 (fun _ => 0))] := ⟨_, rfl⟩
  have h : Wd D B s ([(h0, .inr (5, flv 74 (f6)))] ++ X7) H locs := by rw [hX7, ← List.append_assoc]; exact h
  refine c_put C h 11 (by decide) hini rfl q1881 rfl rfl dX7_init_63 (fun H locs h => ?_)
  obtain ⟨f7, hf7⟩ : ∃ z, z = upN f6 11 (.ref q7) := ⟨_, rfl⟩
  rw [← hf7] at h
  have h : Wd D B s ([(h0, .inr (5, flv 74 (f7)))] ++ X7) H locs := h
  refine lv_aload_n hx hb dX7_init_66 rfl (lv_at hl 0 rfl) ?_
  refine lv_sipush (v := nI 4700) hx hb dX7_init_67 (by decide) ?_
  refine n_newa C h (n := 4700) (by decide) (by omega) (by omega) dX7_init_70 (fun q8 H h => ?_)
  obtain ⟨X8, hX8⟩ : ∃ z, z = X7 ++ [(q8, iar dA 4700 (fun _ => 0))] := ⟨_, rfl⟩
  have h : Wd D B s ([(h0, .inr (5, flv 74 (f7)))] ++ X8) H locs := by rw [hX8, ← List.append_assoc]; exact h
  refine c_put C h 13 (by decide) hini rfl q1883 rfl rfl dX7_init_72 (fun H locs h => ?_)
  obtain ⟨f8, hf8⟩ : ∃ z, z = upN f7 13 (.ref q8) := ⟨_, rfl⟩
  rw [← hf8] at h
  have h : Wd D B s ([(h0, .inr (5, flv 74 (f8)))] ++ X8) H locs := h
  refine lv_aload_n hx hb dX7_init_75 rfl (lv_at hl 0 rfl) ?_
  refine lv_sipush (v := nI 4700) hx hb dX7_init_76 (by decide) ?_
  refine n_newr C h (n := 4700) hzs q1868 (by decide) (by omega) (by omega) dX7_init_79 (fun q9 H h => ?_)
  obtain ⟨X9, hX9⟩ : ∃ z, z = X8 ++ [(q9, aar dA 4700 (fun _ => none))] := ⟨_, rfl⟩
  have h : Wd D B s ([(h0, .inr (5, flv 74 (f8)))] ++ X9) H locs := by rw [hX9, ← List.append_assoc]; exact h
  refine c_put C h 14 (by decide) hini rfl q1884 rfl rfl dX7_init_82 (fun H locs h => ?_)
  obtain ⟨f9, hf9⟩ : ∃ z, z = upN f8 14 (.ref q9) := ⟨_, rfl⟩
  rw [← hf9] at h
  have h : Wd D B s ([(h0, .inr (5, flv 74 (f9)))] ++ X9) H locs := h
  refine lv_aload_n hx hb dX7_init_85 rfl (lv_at hl 0 rfl) ?_
  refine lv_sipush (v := nI 4700) hx hb dX7_init_86 (by decide) ?_
  refine n_newr C h (n := 4700) hzs q1868 (by decide) (by omega) (by omega) dX7_init_89 (fun q10 H h => ?_)
  obtain ⟨X10, hX10⟩ : ∃ z, z = X9 ++ [(q10, aar dA 4700 (fun _ => none))] := ⟨_, rfl⟩
  have h : Wd D B s ([(h0, .inr (5, flv 74 (f9)))] ++ X10) H locs := by rw [hX10, ← List.append_assoc]; exact h
  refine c_put C h 15 (by decide) hini rfl q1885 rfl rfl dX7_init_92 (fun H locs h => ?_)
  obtain ⟨f10, hf10⟩ : ∃ z, z = upN f9 15 (.ref q10) := ⟨_, rfl⟩
  rw [← hf10] at h
  have h : Wd D B s ([(h0, .inr (5, flv 74 (f10)))] ++ X10) H locs := h
  refine lv_aload_n hx hb dX7_init_95 rfl (lv_at hl 0 rfl) ?_
  refine lv_sipush (v := nI 4700) hx hb dX7_init_96 (by decide) ?_
  refine n_newa C h (n := 4700) (by decide) (by omega) (by omega) dX7_init_99 (fun q11 H h => ?_)
  obtain ⟨X11, hX11⟩ : ∃ z, z = X10 ++ [(q11, iar dA 4700 (fun _ => 0))] := ⟨_, rfl⟩
  have h : Wd D B s ([(h0, .inr (5, flv 74 (f10)))] ++ X11) H locs := by rw [hX11, ← List.append_assoc]; exact h
  refine c_put C h 17 (by decide) hini rfl q1887 rfl rfl dX7_init_101 (fun H locs h => ?_)
  obtain ⟨f11, hf11⟩ : ∃ z, z = upN f10 17 (.ref q11) := ⟨_, rfl⟩
  rw [← hf11] at h
  have h : Wd D B s ([(h0, .inr (5, flv 74 (f11)))] ++ X11) H locs := h
  refine lv_aload_n hx hb dX7_init_104 rfl (lv_at hl 0 rfl) ?_
  refine lv_sipush (v := nI 4700) hx hb dX7_init_105 (by decide) ?_
  refine n_newr C h (n := 4700) hzs q1868 (by decide) (by omega) (by omega) dX7_init_108 (fun q12 H h => ?_)
  obtain ⟨X12, hX12⟩ : ∃ z, z = X11 ++ [(q12, aar dA 4700 (fun _ => none))] := ⟨_, rfl⟩
  have h : Wd D B s ([(h0, .inr (5, flv 74 (f11)))] ++ X12) H locs := by rw [hX12, ← List.append_assoc]; exact h
  refine c_put C h 18 (by decide) hini rfl q1888 rfl rfl dX7_init_111 (fun H locs h => ?_)
  obtain ⟨f12, hf12⟩ : ∃ z, z = upN f11 18 (.ref q12) := ⟨_, rfl⟩
  rw [← hf12] at h
  have h : Wd D B s ([(h0, .inr (5, flv 74 (f12)))] ++ X12) H locs := h
  refine lv_aload_n hx hb dX7_init_114 rfl (lv_at hl 0 rfl) ?_
  refine lv_sipush (v := nI 4700) hx hb dX7_init_115 (by decide) ?_
  refine n_newr C h (n := 4700) hzs q1868 (by decide) (by omega) (by omega) dX7_init_118 (fun q13 H h => ?_)
  obtain ⟨X13, hX13⟩ : ∃ z, z = X12 ++ [(q13, aar dA 4700 (fun _ => none))] := ⟨_, rfl⟩
  have h : Wd D B s ([(h0, .inr (5, flv 74 (f12)))] ++ X13) H locs := by rw [hX13, ← List.append_assoc]; exact h
  refine c_put C h 19 (by decide) hini rfl q1889 rfl rfl dX7_init_121 (fun H locs h => ?_)
  obtain ⟨f13, hf13⟩ : ∃ z, z = upN f12 19 (.ref q13) := ⟨_, rfl⟩
  rw [← hf13] at h
  have h : Wd D B s ([(h0, .inr (5, flv 74 (f13)))] ++ X13) H locs := h
  refine lv_aload_n hx hb dX7_init_124 rfl (lv_at hl 0 rfl) ?_
  refine lv_sipush (v := nI 30000) hx hb dX7_init_125 (by decide) ?_
  refine n_newa C h (n := 30000) (by decide) (by omega) (by omega) dX7_init_128 (fun q14 H h => ?_)
  obtain ⟨X14, hX14⟩ : ∃ z, z = X13 ++ [(q14, iar dA 30000 (fun _ => 0))] := ⟨_, rfl⟩
  have h : Wd D B s ([(h0, .inr (5, flv 74 (f13)))] ++ X14) H locs := by rw [hX14, ← List.append_assoc]; exact h
  refine c_put C h 21 (by decide) hini rfl q1891 rfl rfl dX7_init_130 (fun H locs h => ?_)
  obtain ⟨f14, hf14⟩ : ∃ z, z = upN f13 21 (.ref q14) := ⟨_, rfl⟩
  rw [← hf14] at h
  have h : Wd D B s ([(h0, .inr (5, flv 74 (f14)))] ++ X14) H locs := h
  refine lv_aload_n hx hb dX7_init_133 rfl (lv_at hl 0 rfl) ?_
  refine lv_bipush (v := nI 32) hx hb dX7_init_134 (by decide) ?_
  refine n_newa C h (n := 32) (by decide) (by omega) (by omega) dX7_init_136 (fun q15 H h => ?_)
  obtain ⟨X15, hX15⟩ : ∃ z, z = X14 ++ [(q15, iar dA 32 (fun _ => 0))] := ⟨_, rfl⟩
  have h : Wd D B s ([(h0, .inr (5, flv 74 (f14)))] ++ X15) H locs := by rw [hX15, ← List.append_assoc]; exact h
  refine c_put C h 22 (by decide) hini rfl q1892 rfl rfl dX7_init_138 (fun H locs h => ?_)
  obtain ⟨f15, hf15⟩ : ∃ z, z = upN f14 22 (.ref q15) := ⟨_, rfl⟩
  rw [← hf15] at h
  have h : Wd D B s ([(h0, .inr (5, flv 74 (f15)))] ++ X15) H locs := h
  refine lv_aload_n hx hb dX7_init_141 rfl (lv_at hl 0 rfl) ?_
  refine lv_bipush (v := nI 80) hx hb dX7_init_142 (by decide) ?_
  refine n_newa C h (n := 80) (by decide) (by omega) (by omega) dX7_init_144 (fun q16 H h => ?_)
  obtain ⟨X16, hX16⟩ : ∃ z, z = X15 ++ [(q16, iar dA 80 (fun _ => 0))] := ⟨_, rfl⟩
  have h : Wd D B s ([(h0, .inr (5, flv 74 (f15)))] ++ X16) H locs := by rw [hX16, ← List.append_assoc]; exact h
  refine c_put C h 23 (by decide) hini rfl q1893 rfl rfl dX7_init_146 (fun H locs h => ?_)
  obtain ⟨f16, hf16⟩ : ∃ z, z = upN f15 23 (.ref q16) := ⟨_, rfl⟩
  rw [← hf16] at h
  have h : Wd D B s ([(h0, .inr (5, flv 74 (f16)))] ++ X16) H locs := h
  refine lv_aload_n hx hb dX7_init_149 rfl (lv_at hl 0 rfl) ?_
  refine lv_bipush (v := nI 8) hx hb dX7_init_150 (by decide) ?_
  refine n_newa C h (n := 8) (by decide) (by omega) (by omega) dX7_init_152 (fun q17 H h => ?_)
  obtain ⟨X17, hX17⟩ : ∃ z, z = X16 ++ [(q17, iar dA 8 (fun _ => 0))] := ⟨_, rfl⟩
  have h : Wd D B s ([(h0, .inr (5, flv 74 (f16)))] ++ X17) H locs := by rw [hX17, ← List.append_assoc]; exact h
  refine c_put C h 24 (by decide) hini rfl q1894 rfl rfl dX7_init_154 (fun H locs h => ?_)
  obtain ⟨f17, hf17⟩ : ∃ z, z = upN f16 24 (.ref q17) := ⟨_, rfl⟩
  rw [← hf17] at h
  have h : Wd D B s ([(h0, .inr (5, flv 74 (f17)))] ++ X17) H locs := h
  refine lv_aload_n hx hb dX7_init_157 rfl (lv_at hl 0 rfl) ?_
  refine lv_bipush (v := nI 8) hx hb dX7_init_158 (by decide) ?_
  refine n_newa C h (n := 8) (by decide) (by omega) (by omega) dX7_init_160 (fun q18 H h => ?_)
  obtain ⟨X18, hX18⟩ : ∃ z, z = X17 ++ [(q18, iar dA 8 (fun _ => 0))] := ⟨_, rfl⟩
  have h : Wd D B s ([(h0, .inr (5, flv 74 (f17)))] ++ X18) H locs := by rw [hX18, ← List.append_assoc]; exact h
  refine c_put C h 25 (by decide) hini rfl q1895 rfl rfl dX7_init_162 (fun H locs h => ?_)
  obtain ⟨f18, hf18⟩ : ∃ z, z = upN f17 25 (.ref q18) := ⟨_, rfl⟩
  rw [← hf18] at h
  have h : Wd D B s ([(h0, .inr (5, flv 74 (f18)))] ++ X18) H locs := h
  refine lv_aload_n hx hb dX7_init_165 rfl (lv_at hl 0 rfl) ?_
  refine lv_bipush (v := nI 40) hx hb dX7_init_166 (by decide) ?_
  refine n_newl C h (n := 40) (by decide) (by omega) (by omega) dX7_init_168 (fun q19 H h => ?_)
  obtain ⟨X19, hX19⟩ : ∃ z, z = X18 ++ [(q19, lar dA 40 (fun _ => 0))] := ⟨_, rfl⟩
  have h : Wd D B s ([(h0, .inr (5, flv 74 (f18)))] ++ X19) H locs := by rw [hX19, ← List.append_assoc]; exact h
  refine c_put C h 27 (by decide) hini rfl q1897 rfl rfl dX7_init_170 (fun H locs h => ?_)
  obtain ⟨f19, hf19⟩ : ∃ z, z = upN f18 27 (.ref q19) := ⟨_, rfl⟩
  rw [← hf19] at h
  have h : Wd D B s ([(h0, .inr (5, flv 74 (f19)))] ++ X19) H locs := h
  refine lv_aload_n hx hb dX7_init_173 rfl (lv_at hl 0 rfl) ?_
  refine lv_bipush (v := nI 42) hx hb dX7_init_174 (by decide) ?_
  refine n_newl C h (n := 42) (by decide) (by omega) (by omega) dX7_init_176 (fun q20 H h => ?_)
  obtain ⟨X20, hX20⟩ : ∃ z, z = X19 ++ [(q20, lar dA 42 (fun _ => 0))] := ⟨_, rfl⟩
  have h : Wd D B s ([(h0, .inr (5, flv 74 (f19)))] ++ X20) H locs := by rw [hX20, ← List.append_assoc]; exact h
  refine c_put C h 28 (by decide) hini rfl q1898 rfl rfl dX7_init_178 (fun H locs h => ?_)
  obtain ⟨f20, hf20⟩ : ∃ z, z = upN f19 28 (.ref q20) := ⟨_, rfl⟩
  rw [← hf20] at h
  have h : Wd D B s ([(h0, .inr (5, flv 74 (f20)))] ++ X20) H locs := h
  refine lv_aload_n hx hb dX7_init_181 rfl (lv_at hl 0 rfl) ?_
  refine lv_bipush (v := nI 40) hx hb dX7_init_182 (by decide) ?_
  refine n_newl C h (n := 40) (by decide) (by omega) (by omega) dX7_init_184 (fun q21 H h => ?_)
  obtain ⟨X21, hX21⟩ : ∃ z, z = X20 ++ [(q21, lar dA 40 (fun _ => 0))] := ⟨_, rfl⟩
  have h : Wd D B s ([(h0, .inr (5, flv 74 (f20)))] ++ X21) H locs := by rw [hX21, ← List.append_assoc]; exact h
  refine c_put C h 30 (by decide) hini rfl q1900 rfl rfl dX7_init_186 (fun H locs h => ?_)
  obtain ⟨f21, hf21⟩ : ∃ z, z = upN f20 30 (.ref q21) := ⟨_, rfl⟩
  rw [← hf21] at h
  have h : Wd D B s ([(h0, .inr (5, flv 74 (f21)))] ++ X21) H locs := h
  refine lv_aload_n hx hb dX7_init_189 rfl (lv_at hl 0 rfl) ?_
  refine lv_bipush (v := nI 40) hx hb dX7_init_190 (by decide) ?_
  refine n_newl C h (n := 40) (by decide) (by omega) (by omega) dX7_init_192 (fun q22 H h => ?_)
  obtain ⟨X22, hX22⟩ : ∃ z, z = X21 ++ [(q22, lar dA 40 (fun _ => 0))] := ⟨_, rfl⟩
  have h : Wd D B s ([(h0, .inr (5, flv 74 (f21)))] ++ X22) H locs := by rw [hX22, ← List.append_assoc]; exact h
  refine c_put C h 31 (by decide) hini rfl q1901 rfl rfl dX7_init_194 (fun H locs h => ?_)
  obtain ⟨f22, hf22⟩ : ∃ z, z = upN f21 31 (.ref q22) := ⟨_, rfl⟩
  rw [← hf22] at h
  have h : Wd D B s ([(h0, .inr (5, flv 74 (f22)))] ++ X22) H locs := h
  refine lv_aload_n hx hb dX7_init_197 rfl (lv_at hl 0 rfl) ?_
  refine lv_bipush (v := nI 40) hx hb dX7_init_198 (by decide) ?_
  refine n_newl C h (n := 40) (by decide) (by omega) (by omega) dX7_init_200 (fun q23 H h => ?_)
  obtain ⟨X23, hX23⟩ : ∃ z, z = X22 ++ [(q23, lar dA 40 (fun _ => 0))] := ⟨_, rfl⟩
  have h : Wd D B s ([(h0, .inr (5, flv 74 (f22)))] ++ X23) H locs := by rw [hX23, ← List.append_assoc]; exact h
  refine c_put C h 32 (by decide) hini rfl q1902 rfl rfl dX7_init_202 (fun H locs h => ?_)
  obtain ⟨f23, hf23⟩ : ∃ z, z = upN f22 32 (.ref q23) := ⟨_, rfl⟩
  rw [← hf23] at h
  have h : Wd D B s ([(h0, .inr (5, flv 74 (f23)))] ++ X23) H locs := h
  refine lv_aload_n hx hb dX7_init_205 rfl (lv_at hl 0 rfl) ?_
  refine lv_sipush (v := nI 5000) hx hb dX7_init_206 (by decide) ?_
  refine n_newa C h (n := 5000) (by decide) (by omega) (by omega) dX7_init_209 (fun q24 H h => ?_)
  obtain ⟨X24, hX24⟩ : ∃ z, z = X23 ++ [(q24, iar dA 5000 (fun _ => 0))] := ⟨_, rfl⟩
  have h : Wd D B s ([(h0, .inr (5, flv 74 (f23)))] ++ X24) H locs := by rw [hX24, ← List.append_assoc]; exact h
  refine c_put C h 46 (by decide) hini rfl q1916 rfl rfl dX7_init_211 (fun H locs h => ?_)
  obtain ⟨f24, hf24⟩ : ∃ z, z = upN f23 46 (.ref q24) := ⟨_, rfl⟩
  rw [← hf24] at h
  have h : Wd D B s ([(h0, .inr (5, flv 74 (f24)))] ++ X24) H locs := h
  refine lv_aload_n hx hb dX7_init_214 rfl (lv_at hl 0 rfl) ?_
  refine lv_iconst (v := nI 3) hx hb dX7_init_215 (by decide) ?_
  refine n_newz C h (n := 3) (by decide) (by omega) (by omega) dX7_init_216 (fun q25 H h => ?_)
  obtain ⟨X25, hX25⟩ : ∃ z, z = X24 ++ [(q25, zar dA 3 (fun _ => 0))] := ⟨_, rfl⟩
  have h : Wd D B s ([(h0, .inr (5, flv 74 (f24)))] ++ X25) H locs := by rw [hX25, ← List.append_assoc]; exact h
  refine c_put C h 70 (by decide) hini rfl q1940 rfl rfl dX7_init_218 (fun H locs h => ?_)
  obtain ⟨f25, hf25⟩ : ∃ z, z = upN f24 70 (.ref q25) := ⟨_, rfl⟩
  rw [← hf25] at h
  have h : Wd D B s ([(h0, .inr (5, flv 74 (f25)))] ++ X25) H locs := h
  obtain ⟨ad, had⟩ : ∃ z : Nat → Nat, z = fun k => bif Nat.beq k 2 then q1 else bif Nat.beq k 4 then q2 else bif Nat.beq k 6 then q3 else bif Nat.beq k 7 then q4 else bif Nat.beq k 8 then q5 else bif Nat.beq k 9 then q6 else bif Nat.beq k 11 then q7 else bif Nat.beq k 13 then q8 else bif Nat.beq k 14 then q9 else bif Nat.beq k 15 then q10 else bif Nat.beq k 17 then q11 else bif Nat.beq k 18 then q12 else bif Nat.beq k 19 then q13 else bif Nat.beq k 21 then q14 else bif Nat.beq k 22 then q15 else bif Nat.beq k 23 then q16 else bif Nat.beq k 24 then q17 else bif Nat.beq k 25 then q18 else bif Nat.beq k 27 then q19 else bif Nat.beq k 28 then q20 else bif Nat.beq k 30 then q21 else bif Nat.beq k 31 then q22 else bif Nat.beq k 32 then q23 else bif Nat.beq k 46 then q24 else bif Nat.beq k 70 then q25 else 0 := ⟨_, rfl⟩
  have ha2 : ad 2 = q1 := by rw [had]; rfl
  have ha4 : ad 4 = q2 := by rw [had]; rfl
  have ha6 : ad 6 = q3 := by rw [had]; rfl
  have ha7 : ad 7 = q4 := by rw [had]; rfl
  have ha8 : ad 8 = q5 := by rw [had]; rfl
  have ha9 : ad 9 = q6 := by rw [had]; rfl
  have ha11 : ad 11 = q7 := by rw [had]; rfl
  have ha13 : ad 13 = q8 := by rw [had]; rfl
  have ha14 : ad 14 = q9 := by rw [had]; rfl
  have ha15 : ad 15 = q10 := by rw [had]; rfl
  have ha17 : ad 17 = q11 := by rw [had]; rfl
  have ha18 : ad 18 = q12 := by rw [had]; rfl
  have ha19 : ad 19 = q13 := by rw [had]; rfl
  have ha21 : ad 21 = q14 := by rw [had]; rfl
  have ha22 : ad 22 = q15 := by rw [had]; rfl
  have ha23 : ad 23 = q16 := by rw [had]; rfl
  have ha24 : ad 24 = q17 := by rw [had]; rfl
  have ha25 : ad 25 = q18 := by rw [had]; rfl
  have ha27 : ad 27 = q19 := by rw [had]; rfl
  have ha28 : ad 28 = q20 := by rw [had]; rfl
  have ha30 : ad 30 = q21 := by rw [had]; rfl
  have ha31 : ad 31 = q22 := by rw [had]; rfl
  have ha32 : ad 32 = q23 := by rw [had]; rfl
  have ha46 : ad 46 = q24 := by rw [had]; rfl
  have ha70 : ad 70 = q25 := by rw [had]; rfl
  have hfin : flv 74 f25 = flv 74 (mfv ad (mz ad)) := by
    refine flv_ext (fun k hk => ?_)
    rw [hf25, hf24, hf23, hf22, hf21, hf20, hf19, hf18, hf17, hf16, hf15, hf14, hf13, hf12, hf11, hf10, hf9, hf8, hf7, hf6, hf5, hf4, hf3, hf2, hf1, had]
    exact mf_fin q1 q2 q3 q4 q5 q6 q7 q8 q9 q10 q11 q12 q13 q14 q15 q16 q17 q18 q19 q20 q21 q22 q23 q24 q25 k hk
  rw [hfin, hX25, hX24, hX23, hX22, hX21, hX20, hX19, hX18, hX17, hX16, hX15, hX14, hX13, hX12, hX11, hX10, hX9, hX8, hX7, hX6, hX5, hX4, hX3, hX2, hX1] at h
  rw [← ha2, ← ha4, ← ha6, ← ha7, ← ha8, ← ha9, ← ha11, ← ha13, ← ha14, ← ha15, ← ha17, ← ha18, ← ha19, ← ha21, ← ha22, ← ha23, ← ha24, ← ha25, ← ha27, ← ha28, ← ha30, ← ha31, ← ha32, ← ha46, ← ha70] at h
  have h : Wd D B s (mw dA h0 ad (mz ad) ++ F) H locs := h.permL (mw_perm dA h0 ad F)
  subst hQ
  exact ret_v C hr hlocks h ad trivial rfl rfl (by omega) (by omega) dX7_init_221
