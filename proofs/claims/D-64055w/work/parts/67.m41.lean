set_option maxRecDepth 100000

theorem s_s : ∀ n, n < 32 → ((nI n &&& 31).toBitVec.smod 32).toNat = n := by decide +kernel
theorem shr6 {v k : Nat} (hv : v < 2147483648) (hk : k < 32) : shr (nI v) (nI k) &&& nI 63 = nI (v / 2 ^ k % 64) := by
  rw [show shr (nI v) (nI k) = nI (v / 2 ^ k) from pk_shrN hv _ k (s_s k hk), pk_andN (Nat.lt_of_le_of_lt (Nat.div_le_self _ _) (by omega)) 6 (by decide)]
theorem sgnN_lt {v : Nat} (h : v < 64) : sgnN v < 128 := by unfold sgnN; (repeat' split) <;> omega
/-- signs for bytes -/
def sgI (l : List Nat) (i : Nat) : Nat := if 6 * i < 8 * l.length then sgnN ((gD l (6 * i / 8) * 256 + gD l (6 * i / 8 + 1)) / 2 ^ (10 - 6 * i % 8) % 64) else 61
def sgS (l : List Nat) : Nat → List Nat
  | 0 => []
  | i + 1 => sgS l i ++ ([sgI l i] ++ (if i % 64 = 63 ∨ i = 4 * ((l.length + 2) / 3) - 1 then [10] else []))
theorem sgI_lt (l : List Nat) (i : Nat) : sgI l i < 128 := by
  unfold sgI
  split
  · exact sgnN_lt (Nat.mod_lt _ (by decide))
  · decide
theorem sgS_len (l : List Nat) (i : Nat) : (sgS l i).length ≤ 2 * i := by
  induction i with
  | zero => exact Nat.le_refl _
  | succ i ih =>
    rw [sgS, List.length_append, List.length_append]
    have : (if i % 64 = 63 ∨ i = 4 * ((l.length + 2) / 3) - 1 then [10] else [] : List Nat).length ≤ 1 := by split <;> decide
    have e : [sgI l i].length = 1 := rfl
    omega
theorem sgS_byt (l : List Nat) (i : Nat) : byt (sgS l i) := by
  induction i with
  | zero => intro x hx; cases hx
  | succ i ih =>
    refine byt_app ih (byt_app (fun x hx => ?_) (fun x hx => ?_))
    · simp only [List.mem_cons, List.not_mem_nil, or_false] at hx
      rw [hx]; exact Nat.lt_trans (sgI_lt l i) (by decide)
    · split at hx
      · simp only [List.mem_cons, List.not_mem_nil, or_false] at hx; omega
      · cases hx
def enL (k : Nat) : List Nat := [45, 45, 45, 45, 45, 69, 78, 68, 32] ++ labL k ++ [45, 45, 45, 45, 45]
def armL (k : Nat) (l : List Nat) : List Nat := bgL k ++ [10] ++ [10] ++ sgS l (4 * ((l.length + 2) / 3)) ++ [61] ++ [sgnN (crcS l / 262144 % 64)] ++ [sgnN (crcS l / 4096 % 64)] ++ [sgnN (crcS l / 64 % 64)] ++ [sgnN (crcS l / 1 % 64)] ++ [10] ++ enL k ++ [10]
theorem armL_len (k : Nat) (l : List Nat) : (armL k l).length ≤ 2 * (4 * ((l.length + 2) / 3)) + 70 := by
  have h1 := sgS_len l (4 * ((l.length + 2) / 3))
  have h2 := labL_len k
  unfold armL bgL enL
  simp only [List.length_append, List.length_cons, List.length_nil]
  omega
theorem byt_one {x : Nat} (h : x < 256) : byt [x] := by
  intro y hy
  simp only [List.mem_cons, List.not_mem_nil, or_false] at hy
  rw [hy]; exact h
theorem armL_byt (k : Nat) (l : List Nat) : byt (armL k l) := by
  have hs : ∀ v, sgnN (v % 64) < 256 := fun v => Nat.lt_trans (sgnN_lt (Nat.mod_lt _ (by decide))) (by decide)
  have hb : byt (bgL k) := byt_app (byt_app (by intro x hx; revert x; decide) (labL_byt k)) (by intro x hx; revert x; decide)
  have he : byt (enL k) := byt_app (byt_app (by intro x hx; revert x; decide) (labL_byt k)) (by intro x hx; revert x; decide)
  unfold armL
  exact byt_app (byt_app (byt_app (byt_app (byt_app (byt_app (byt_app (byt_app (byt_app (byt_app (byt_app hb (byt_one (by decide))) (byt_one (by decide))) (sgS_byt _ _)) (byt_one (by decide))) (byt_one (hs _))) (byt_one (hs _))) (byt_one (hs _))) (byt_one (hs _))) (byt_one (by decide))) he) (byt_one (by decide))
/-- thrown, told, and the out, by armor -/
def armS (ou : List Nat) (x : Int32) : Nat × Nat × List Nat := if x < 0 ∨ nI 2 < x then (1, 0, ou) else if 8000 < ou.length then (2, 0, ou) else (0, (armL x.toInt.toNat ou).length, armL x.toInt.toNat ou)
theorem armS_f {ou : List Nat} {x : Int32} (h : x < 0 ∨ nI 2 < x) : armS ou x = (1, 0, ou) := by unfold armS; rw [if_pos h]
theorem armS_k {ou : List Nat} {x : Int32} {k : Nat} (h1 : ¬ x < 0) (h2 : ¬ nI 2 < x) (hk : x.toInt.toNat = k) : armS ou x = if 8000 < ou.length then (2, 0, ou) else (0, (armL k ou).length, armL k ou) := by unfold armS; rw [if_neg (fun q => q.elim h1 h2), hk]
theorem i_le {z : Int32} {n : Nat} (hn : n < 1000000) (h1 : ¬ z < 0) (h2 : z ≤ nI n) : ∃ k, k ≤ n ∧ z = nI k ∧ z.toInt.toNat = k := by
  obtain ⟨j, hj, rfl⟩ := nI_of2 (M := nI n) (n := n) (nI_toInt (by omega)) h1 h2
  refine ⟨j, hj, rfl, ?_⟩
  rw [nI_toInt (by omega)]; rfl
/-- the out is another -/
theorem MSt.outp {dA : Nat → ClassId} {F : va_W} {ad : Nat → Nat} {M : MS} {tp dc ou : List Nat} {L : List PK} (h : MSt dA F ad M tp dc ou L) (v : Int32) (X : Nat → Nat) {l : List Nat} (hb : byt l) (hl : l.length ≤ 59000) : MSt dA F ad (apM (sI (sG (sI M 0 v) 9 X) 10 (nI 0)) 11 10 0 l) tp dc l L :=
  ⟨h.1, h.2.1, ⟨by rw [show l.length = 0 + l.length by rw [Nat.zero_add]]; rfl, app_get0, hb, hl⟩, h.2.2.2⟩
/-- thrown and told by hash -/
def hshS (dc : List Nat) (x y : Int32) : Nat × Nat := if ¬ x = nI 1 ∧ ¬ x = nI 2 then (1, 0) else if y < 0 ∨ ¬ y < (if x = nI 1 then nI 20 else nI 32) then (2, 0) else (0, gD (hash (if x = nI 1 then 2 else 8) dc) y.toInt.toNat)

set_option maxHeartbeats 1600000 in
set_option maxRecDepth 100000 in
theorem c7_putSigns (l : Launch) (D : va_G) (dA : Nat → ClassId) (B : Nat) (Z : State → Prop) (hZ : Stab B Z) (h0 : Nat) (ad : Nat → Nat) (M : MS) (F : va_W) (gl : List Nat) (k n : Nat) (hzs : ZS dA B Z) (h1 : mI M 10 = nI n) (hk : k < 3) (hG : ∀ j, j < gl.length → mG M 9 j = gD gl j) (hgb : byt gl) (hgl : gl.length ≤ 8000) (h5 : n ≤ 20000) :
    Ct (S := va_W) l D dA B Z yX7_putSigns cX7_putSigns 9 none 9 14 2400 [.ref h0, .int (nI gl.length), .int (nI k)] (mw dA h0 ad M ++ F) (fun _ => True) (fun _ => none) (fun u => mw dA h0 ad (apM M 11 10 n (armL k gl)) ++ (F ++ u)) := by
  refine Ct.mk2 (by decide) (Nat.le_of_ble_eq_true rfl) hZ ?_
  intro p e R s m args below meth c ls Q C hr hlocks hin hQ hl h
  have C0 := C
  obtain ⟨hx, hb, hml, hown, hts, -⟩ := C0
  have hl : lv_has ls 9 [(0, .ref h0), (1, .int (nI gl.length)), (2, .int (nI k))] := hl
  obtain ⟨sa273, sv273, hr273, hk273⟩ := hzs.2.2.1 _ (List.mem_of_getElem? (l := strTab) (i := 19) rfl)
  obtain ⟨sa263, sv263, hr263, hk263⟩ := hzs.2.2.1 _ (List.mem_of_getElem? (l := strTab) (i := 18) rfl)
  obtain ⟨sa257, sv257, hr257, hk257⟩ := hzs.2.2.1 _ (List.mem_of_getElem? (l := strTab) (i := 17) rfl)
  have hlk := labL_len k
  have hcr := crcS_lt hgb
  have hsl : sl (mG M 9) 0 gl.length = gl := (sl_congr (fun j hj => hG _ (by omega))).trans (sl_gD gl)
  refine lv_aload_n hx hb dX7_putSigns_0 rfl (lv_at hl 0 rfl) ?_
  refine m_gc C h 9 (by decide) rfl rfl q1879 dX7_putSigns_1 ?_
  refine lv_astore_n (lv' := [(3, .ref (ad 9)), (0, .ref h0), (1, .int (nI gl.length)), (2, .int (nI k))]) hx hb dX7_putSigns_4 rfl hl (by decide) rfl (fun ls hl => ?_)
  refine lv_aload_n hx hb dX7_putSigns_5 rfl (lv_at hl 1 rfl) ?_
  refine o_new C h (RC := RJ12) (T := TJ12) (N := 4) (ci := 18) (fs := [.null, .int 0, .int (bZ false), .int 0]) rfl in_J12 tyJ12_ok q2136 q700 q155 dv_J12 (by omega) (by omega) dX7_putSigns_6 (fun o1 H h => ?_)
  have h : Wd D B s ([(o1, .inr (18, [.null, .int 0, .int (bZ false), .int 0]))] ++ (mw dA h0 ad M ++ F)) H [] := h.permL (perm_add (fun g f p0 p1 p2 => by (try simp only [p0, p1, p2]) <;> omega))
  refine lv_dup hx hb dX7_putSigns_9 rfl ?_
  refine call_I (As := []) (rest := [.ref o1, .ref h0]) (n := 0) C h (cJ_sbInit l D dA B Z hZ (mw dA h0 ad M ++ F) o1 hzs) (lw_meth q703) q155 q2137 q702 rfl (by decide +kernel) (by decide) (by decide) rfl hl rfl (Nat.le_of_ble_eq_true rfl) dX7_putSigns_10 (by omega) (fun v0c H locs _ h => ?_)
  have h : Wd D B s ([(o1, .inr (18, [.ref v0c, .int (nI 0), .int (bZ false), .int (nI (([] : List Nat).length))])), (v0c, bar dA 16 (fun _ => 0))] ++ (mw dA h0 ad M ++ F)) H locs := h.permL (perm_add (fun g f p0 p1 p2 => by (try simp only [p0, p1, p2]) <;> omega))
  have hnl9 : ([] : List Nat).length = 0 := rfl
  have hsb0c := SBis_0
  have hnn0c : (16 : Nat) ≤ 16 := Nat.le_refl _
  refine s_ldcw C h hr273 dX7_putSigns_13 ?_
  have hle1c : ([45, 45, 45, 45, 45, 66, 69, 71, 73, 78, 32]).length ≤ 20 := by decide
  refine call_VR (As := [.ref sa273]) (rest := [.ref h0]) (n := 1) C h (cJ_append l D dA B Z hZ (mw dA h0 ad M ++ F) o1 v0c 16 (fun _ => 0) false ([] : List Nat) sa273 sv273 ([45, 45, 45, 45, 45, 66, 69, 71, 73, 78, 32]) (nilup hk273 _) (by intro x hx; revert x; decide) (by omega) hzs hsb0c (by omega) (by (try simp only [List.length_append, List.length_nil]) <;> omega)) (lw_V q2139 q732 q733 q155 q734) (by decide +kernel) (o_recv C h (RC := RJ12) (T := TJ12) (N := 4) (List.mem_of_getElem? (i := 0) rfl) rfl) (by decide) (by decide) rfl hl rfl (Nat.le_of_ble_eq_true rfl) dX7_putSigns_16 (by omega) (fun u1c H locs hu1c h => ?_)
  obtain ⟨v1c, n1c, g1c, E1c⟩ := u1c
  obtain ⟨hsb1c, hnn1c⟩ := hu1c
  have h : Wd D B s ([(o1, .inr (18, [.ref v1c, .int (nI 0), .int (bZ false), .int (nI ((([] : List Nat) ++ [45, 45, 45, 45, 45, 66, 69, 71, 73, 78, 32]).length))])), (v1c, bar dA n1c g1c)] ++ ((mw dA h0 ad M ++ F) ++ E1c)) H locs := h.permL (perm_add (fun g f p0 p1 p2 => by (try simp only [p0, p1, p2]) <;> omega))
  have hsb1c : SBis g1c n1c (([] : List Nat) ++ [45, 45, 45, 45, 45, 66, 69, 71, 73, 78, 32]) := hsb1c
  have hnn1c : n1c ≤ 2 * 16 + 2 + ((([] : List Nat)).length + ([45, 45, 45, 45, 45, 66, 69, 71, 73, 78, 32]).length) := hnn1c
  have hll1c : (([] : List Nat) ++ [45, 45, 45, 45, 45, 66, 69, 71, 73, 78, 32]).length ≤ 20 := by simp only [List.length_append, List.length_nil] at *; omega
  have hnz1c : n1c ≤ 54 := by simp only [List.length_nil] at hnn1c; omega
  refine lv_iload_n hx hb dX7_putSigns_19 rfl (lv_at hl 3 rfl) ?_
  refine call_S (As := [.int (nI k)]) (rest := [.ref o1, .ref h0]) (n := 1) C h (c7_label l D dA B Z hZ _ k hzs (by omega)) (lw_S q2140 q2141 q138 q2142) (by decide +kernel) (by decide) (by decide) rfl hl rfl (Nat.le_of_ble_eq_true rfl) dX7_putSigns_20 (by omega) (fun ulp H locs hulp h => ?_)
  obtain ⟨lap, lvp⟩ := ulp
  have hulp : StrV dA B Z [] lap lvp (labL k) := hulp
  have hle2c : (labL k).length ≤ 20 := Nat.le_trans (labL_len k) (by decide)
  refine call_VR (As := [.ref lap]) (rest := [.ref h0]) (n := 1) C h (cJ_append l D dA B Z hZ ((mw dA h0 ad M ++ F) ++ E1c) o1 v1c n1c g1c false (([] : List Nat) ++ [45, 45, 45, 45, 45, 66, 69, 71, 73, 78, 32]) lap lvp (labL k) (nilup hulp _) (labL_byt k) (by omega) hzs hsb1c (by omega) (by (try simp only [List.length_append, List.length_nil]) <;> omega)) (lw_V q2139 q732 q733 q155 q734) (by decide +kernel) (o_recv C h (RC := RJ12) (T := TJ12) (N := 4) (List.mem_of_getElem? (i := 0) rfl) rfl) (by decide) (by decide) rfl hl rfl (Nat.le_of_ble_eq_true rfl) dX7_putSigns_23 (by omega) (fun u2c H locs hu2c h => ?_)
  obtain ⟨v2c, n2c, g2c, E2c⟩ := u2c
  obtain ⟨hsb2c, hnn2c⟩ := hu2c
  have h : Wd D B s ([(o1, .inr (18, [.ref v2c, .int (nI 0), .int (bZ false), .int (nI ((([] : List Nat) ++ [45, 45, 45, 45, 45, 66, 69, 71, 73, 78, 32] ++ labL k).length))])), (v2c, bar dA n2c g2c)] ++ (((mw dA h0 ad M ++ F) ++ E1c) ++ E2c)) H locs := h.permL (perm_add (fun g f p0 p1 p2 => by (try simp only [p0, p1, p2]) <;> omega))
  have hsb2c : SBis g2c n2c (([] : List Nat) ++ [45, 45, 45, 45, 45, 66, 69, 71, 73, 78, 32] ++ labL k) := hsb2c
  have hnn2c : n2c ≤ 2 * n1c + 2 + ((([] : List Nat) ++ [45, 45, 45, 45, 45, 66, 69, 71, 73, 78, 32]).length + (labL k).length) := hnn2c
  have hll2c : (([] : List Nat) ++ [45, 45, 45, 45, 45, 66, 69, 71, 73, 78, 32] ++ labL k).length ≤ 40 := by simp only [List.length_append, List.length_nil] at *; omega
  have hnz2c : n2c ≤ 150 := by omega
  refine s_ldcw C h hr263 dX7_putSigns_26 ?_
  have hle3c : ([45, 45, 45, 45, 45]).length ≤ 20 := by decide
  refine call_VR (As := [.ref sa263]) (rest := [.ref h0]) (n := 1) C h (cJ_append l D dA B Z hZ (((mw dA h0 ad M ++ F) ++ E1c) ++ E2c) o1 v2c n2c g2c false (([] : List Nat) ++ [45, 45, 45, 45, 45, 66, 69, 71, 73, 78, 32] ++ labL k) sa263 sv263 ([45, 45, 45, 45, 45]) (nilup hk263 _) (by intro x hx; revert x; decide) (by omega) hzs hsb2c (by omega) (by (try simp only [List.length_append, List.length_nil]) <;> omega)) (lw_V q2139 q732 q733 q155 q734) (by decide +kernel) (o_recv C h (RC := RJ12) (T := TJ12) (N := 4) (List.mem_of_getElem? (i := 0) rfl) rfl) (by decide) (by decide) rfl hl rfl (Nat.le_of_ble_eq_true rfl) dX7_putSigns_29 (by omega) (fun u3c H locs hu3c h => ?_)
  obtain ⟨v3c, n3c, g3c, E3c⟩ := u3c
  obtain ⟨hsb3c, hnn3c⟩ := hu3c
  have h : Wd D B s ([(o1, .inr (18, [.ref v3c, .int (nI 0), .int (bZ false), .int (nI ((([] : List Nat) ++ [45, 45, 45, 45, 45, 66, 69, 71, 73, 78, 32] ++ labL k ++ [45, 45, 45, 45, 45]).length))])), (v3c, bar dA n3c g3c)] ++ ((((mw dA h0 ad M ++ F) ++ E1c) ++ E2c) ++ E3c)) H locs := h.permL (perm_add (fun g f p0 p1 p2 => by (try simp only [p0, p1, p2]) <;> omega))
  have hsb3c : SBis g3c n3c (([] : List Nat) ++ [45, 45, 45, 45, 45, 66, 69, 71, 73, 78, 32] ++ labL k ++ [45, 45, 45, 45, 45]) := hsb3c
  have hnn3c : n3c ≤ 2 * n2c + 2 + ((([] : List Nat) ++ [45, 45, 45, 45, 45, 66, 69, 71, 73, 78, 32] ++ labL k).length + ([45, 45, 45, 45, 45]).length) := hnn3c
  have hll3c : (([] : List Nat) ++ [45, 45, 45, 45, 45, 66, 69, 71, 73, 78, 32] ++ labL k ++ [45, 45, 45, 45, 45]).length ≤ 60 := by simp only [List.length_append, List.length_nil] at *; omega
  have hnz3c : n3c ≤ 370 := by omega
  refine call_VR (As := []) (rest := [.ref h0]) (n := 0) C h (cJ_toString l D dA B Z hZ ((((mw dA h0 ad M ++ F) ++ E1c) ++ E2c) ++ E3c) o1 v3c n3c g3c false (([] : List Nat) ++ [45, 45, 45, 45, 45, 66, 69, 71, 73, 78, 32] ++ labL k ++ [45, 45, 45, 45, 45]) hzs hsb3c (by omega)) (lw_V q2147 q829 q830 q155 q831) (by decide +kernel) (o_recv C h (RC := RJ12) (T := TJ12) (N := 4) (List.mem_of_getElem? (i := 0) rfl) rfl) (by decide) (by decide) rfl hl rfl (Nat.le_of_ble_eq_true rfl) dX7_putSigns_32 (by omega) (fun usc H locs _ h => ?_)
  obtain ⟨src, sqc⟩ := usc
  have h : Wd D B s ([(src, .inr (17, [.ref sqc, .int (nI 0), .int 0, .int (bZ false)])), (sqc, bal dA (([] : List Nat) ++ [45, 45, 45, 45, 45, 66, 69, 71, 73, 78, 32] ++ labL k ++ [45, 45, 45, 45, 45])), (o1, .inr (18, [.ref v3c, .int (nI 0), .int (bZ false), .int (nI ((([] : List Nat) ++ [45, 45, 45, 45, 45, 66, 69, 71, 73, 78, 32] ++ labL k ++ [45, 45, 45, 45, 45]).length))])), (v3c, bar dA n3c g3c)] ++ ((((mw dA h0 ad M ++ F) ++ E1c) ++ E2c) ++ E3c)) H locs := h.permL (perm_add (fun g f p0 p1 p2 => by (try simp only [p0, p1, p2]) <;> omega))
  obtain ⟨Lc, hLc⟩ : ∃ z, z = ([] : List Nat) ++ [45, 45, 45, 45, 45, 66, 69, 71, 73, 78, 32] ++ labL k ++ [45, 45, 45, 45, 45] := ⟨_, rfl⟩
  have h : Wd D B s (mw dA h0 ad M ++ (F ++ ([(src, .inr (17, [.ref sqc, .int (nI 0), .int 0, .int (bZ false)])), (sqc, bal dA (([] : List Nat) ++ [45, 45, 45, 45, 45, 66, 69, 71, 73, 78, 32] ++ labL k ++ [45, 45, 45, 45, 45])), (o1, .inr (18, [.ref v3c, .int (nI 0), .int (bZ false), .int (nI ((([] : List Nat) ++ [45, 45, 45, 45, 45, 66, 69, 71, 73, 78, 32] ++ labL k ++ [45, 45, 45, 45, 45]).length))])), (v3c, bar dA n3c g3c)] ++ (E1c ++ E2c ++ E3c)))) H locs := h.permL (perm_add (fun g f p0 p1 p2 => by (try simp only [p0, p1, p2]) <;> omega))
  rw [← hLc] at h
  have hLcl : Lc.length < 100 := by rw [hLc]; omega
  have hLcb : byt Lc := by rw [hLc]; exact byt_app (byt_app (byt_app (fun x hx => absurd hx List.not_mem_nil) (by intro x hx; revert x; decide)) (labL_byt k)) (by intro x hx; revert x; decide)
  have hstc : StrV dA B Z (F ++ ([(src, .inr (17, [.ref sqc, .int (nI 0), .int 0, .int (bZ false)])), (sqc, bal dA Lc), (o1, .inr (18, [.ref v3c, .int (nI 0), .int (bZ false), .int (nI Lc.length)])), (v3c, bar dA n3c g3c)] ++ (E1c ++ E2c ++ E3c))) src sqc Lc := Or.inl ⟨.int 0, .int (bZ false), List.mem_append_right _ (List.mem_append_left _ List.mem_cons_self), List.mem_append_right _ (List.mem_append_left _ (List.mem_cons_of_mem _ List.mem_cons_self))⟩
  obtain ⟨E1, hE1⟩ : ∃ z, z = ([(src, .inr (17, [.ref sqc, .int (nI 0), .int 0, .int (bZ false)])), (sqc, bal dA Lc), (o1, .inr (18, [.ref v3c, .int (nI 0), .int (bZ false), .int (nI Lc.length)])), (v3c, bar dA n3c g3c)] ++ (E1c ++ E2c ++ E3c)) := ⟨_, rfl⟩
  rw [← hE1] at h hstc
  have hLb : Lc = bgL k := hLc
  refine call_V (As := [.ref src]) (rest := []) (n := 1) C h (c7_putText l D dA B Z hZ h0 ad M (F ++ E1) src sqc Lc n hzs h1 hstc hLcb (by omega) (by omega)) (lw_V q2536 q2538 qs120 q138 q2539) (by decide +kernel) (ci := 5) rfl rfl mw_mem0 (by decide) (by decide) rfl hl rfl (Nat.le_of_ble_eq_true rfl) dX7_putSigns_35 (by omega) (fun _ H locs _ h => ?_)
  have h : Wd D B s (mw dA h0 ad (apM M 11 10 n Lc) ++ (F ++ E1)) H locs := h
  refine lv_aload_n hx hb dX7_putSigns_38 rfl (lv_at hl 1 rfl) ?_
  refine lv_bipush (v := nI 10) hx hb dX7_putSigns_39 (by decide) ?_
  refine call_V (As := [.int (nI 10)]) (rest := []) (n := 1) C h (c7_put l D dA B Z hZ h0 ad (apM M 11 10 n (Lc)) (F ++ E1) _ (n + (Lc).length) (10) rfl (by (try simp only [List.length_append, List.length_cons, List.length_nil]) <;> omega) (and255 (by decide))) (lw_V q2540 q2542 qs121 q138 q2543) (by decide +kernel) (ci := 5) rfl rfl mw_mem0 (by decide) (by decide) rfl hl rfl (Nat.le_of_ble_eq_true rfl) dX7_putSigns_41 (by omega) (fun _ H locs _ h => ?_)
  rw [apM_app] at h
  have h : Wd D B s (mw dA h0 ad (apM M 11 10 n (Lc ++ [10])) ++ (F ++ E1)) H locs := h
  refine lv_aload_n hx hb dX7_putSigns_44 rfl (lv_at hl 1 rfl) ?_
  refine lv_bipush (v := nI 10) hx hb dX7_putSigns_45 (by decide) ?_
  refine call_V (As := [.int (nI 10)]) (rest := []) (n := 1) C h (c7_put l D dA B Z hZ h0 ad (apM M 11 10 n (Lc ++ [10])) (F ++ E1) _ (n + (Lc ++ [10]).length) (10) rfl (by (try simp only [List.length_append, List.length_cons, List.length_nil]) <;> omega) (and255 (by decide))) (lw_V q2540 q2542 qs121 q138 q2543) (by decide +kernel) (ci := 5) rfl rfl mw_mem0 (by decide) (by decide) rfl hl rfl (Nat.le_of_ble_eq_true rfl) dX7_putSigns_47 (by omega) (fun _ H locs _ h => ?_)
  rw [apM_app] at h
  have h : Wd D B s (mw dA h0 ad (apM M 11 10 n (Lc ++ [10] ++ [10])) ++ (F ++ E1)) H locs := h
  refine lv_iconst (v := nI 4) hx hb dX7_putSigns_50 (by decide) ?_
  refine lv_iload_n hx hb dX7_putSigns_51 rfl (lv_at hl 2 rfl) ?_
  refine lv_iconst (v := nI 2) hx hb dX7_putSigns_52 (by decide) ?_
  refine lv_iadd hx hb dX7_putSigns_53 (n_top (y := nI (gl.length + 2)) (nI_add gl.length 2) ?_)
  refine lv_iconst (v := nI 3) hx hb dX7_putSigns_54 (by decide) ?_
  refine lv_idiv hx hb dX7_putSigns_55 (by decide) (n_top (y := nI ((gl.length + 2) / 3)) (pk_div (by omega) (by omega) (by omega)) ?_)
  refine lv_imul hx hb dX7_putSigns_56 (n_top (y := nI (4 * ((gl.length + 2) / 3))) (pk_mul 4 ((gl.length + 2) / 3)) ?_)
  refine lv_istore (lv' := [(4, .int (nI (4 * ((gl.length + 2) / 3)))), (3, .ref (ad 9)), (0, .ref h0), (1, .int (nI gl.length)), (2, .int (nI k))]) hx hb dX7_putSigns_57 hl (by decide) rfl (fun ls hl => ?_)
  refine lv_iconst (v := nI 0) hx hb dX7_putSigns_59 (by decide) ?_
  refine lv_istore (lv' := [(5, .int (nI 0)), (4, .int (nI (4 * ((gl.length + 2) / 3)))), (3, .ref (ad 9)), (0, .ref h0), (1, .int (nI gl.length)), (2, .int (nI k))]) hx hb dX7_putSigns_60 hl (by decide) rfl (fun ls hl => ?_)
  obtain ⟨L1, hL1⟩ : ∃ z, z = Lc ++ [10] ++ [10] := ⟨_, rfl⟩
  have hL1l : L1.length ≤ 102 := by rw [hL1]; simp only [List.length_append, List.length_cons, List.length_nil]; omega
  have h : Wd D B s (mw dA h0 ad (apM M 11 10 n (L1 ++ sgS gl 0)) ++ (F ++ E1)) H locs := by rw [sgS, List.append_nil, hL1]; exact h
  have loop : ∀ (nn : Nat) (i : Nat), (i ≤ 4 * ((gl.length + 2) / 3)) → 4 * ((gl.length + 2) / 3) - i < nn → ∀ (H : Heap) (locs : List Loc), Wd D B s (mw dA h0 ad (apM M 11 10 n (L1 ++ sgS gl i)) ++ (F ++ E1)) H locs → ∀ (ls : Array Slot), lv_has ls 9 [(5, .int (nI i)), (0, .ref h0), (1, .int (nI gl.length)), (2, .int (nI k)), (3, .ref (ad 9)), (4, .int (nI (4 * ((gl.length + 2) / 3))))] → W p l e R s m args below meth c H locs (0 + 1 + 1 + 1 + 0 + 1 + 1 + 2 + 0 + 0 + 0) (0 + 4 + 16 + (2 * 16 + 2 + ((([] : List Nat)).length + ([45, 45, 45, 45, 45, 66, 69, 71, 73, 78, 32]).length)) + 0 + (2 * n1c + 2 + ((([] : List Nat) ++ [45, 45, 45, 45, 45, 66, 69, 71, 73, 78, 32]).length + (labL k).length)) + (2 * n2c + 2 + ((([] : List Nat) ++ [45, 45, 45, 45, 45, 66, 69, 71, 73, 78, 32] ++ labL k).length + ([45, 45, 45, 45, 45]).length)) + (4 + (([] : List Nat) ++ [45, 45, 45, 45, 45, 66, 69, 71, 73, 78, 32] ++ labL k ++ [45, 45, 45, 45, 45]).length) + 0 + 0 + 0) Q (F0 m 62 ls []) := by
    intro nn
    induction nn with
    | zero => intro i  hi0 hme; exact absurd hme (Nat.not_lt_zero _)
    | succ nn ih =>
      intro i  hi0 hme H locs h ls hl
      have hsg9 := sgS_len gl i
      refine lv_iload hx hb dX7_putSigns_62 (lv_at hl 0 rfl) ?_
      refine lv_iload hx hb dX7_putSigns_64 (lv_at hl 5 rfl) ?_
      refine n_icmp_ge (tgt := 194) hx hb (by omega) (by omega) dX7_putSigns_66 (by decide) (fun c66 => ?_) (fun c66 => ?_)
      · have hie : i = 4 * ((gl.length + 2) / 3) := by omega
        obtain ⟨L2, hL2⟩ : ∃ z, z = L1 ++ sgS gl i := ⟨_, rfl⟩
        have hL2l : L2.length ≤ 102 + 2 * i := by rw [hL2, List.length_append]; omega
        rw [← hL2] at h
        refine lv_aload_n hx hb dX7_putSigns_194 rfl (lv_at hl 4 rfl) ?_
        refine lv_iload_n hx hb dX7_putSigns_195 rfl (lv_at hl 2 rfl) ?_
        refine call_S (As := [.ref (ad 9), .int (nI gl.length)]) (rest := []) (n := 2) C h (c7_sumOf l D dA B Z hZ _ (ad 9) 8000 (mG M 9) gl.length (mw_memG (k := 9) (by decide)) (by omega) (by decide) (fun j hj => by rw [hG j hj]; exact byt_gD hgb j)) (lw_S q2169 q2170 q138 q2171) (by decide +kernel) (by decide) (by decide) rfl hl rfl (Nat.le_of_ble_eq_true rfl) dX7_putSigns_196 (by omega) (fun _ H locs _ h => ?_)
        rw [hsl]
        refine lv_istore (lv' := [(5, .int (nI (crcS gl))), (0, .ref h0), (1, .int (nI gl.length)), (2, .int (nI k)), (3, .ref (ad 9)), (4, .int (nI (4 * ((gl.length + 2) / 3))))]) hx hb dX7_putSigns_199 hl (by decide) rfl (fun ls hl => ?_)
        refine lv_aload_n hx hb dX7_putSigns_201 rfl (lv_at hl 1 rfl) ?_
        refine lv_bipush (v := nI 61) hx hb dX7_putSigns_202 (by decide) ?_
        refine call_V (As := [.int (nI 61)]) (rest := []) (n := 1) C h (c7_put l D dA B Z hZ h0 ad (apM M 11 10 n (L2)) (F ++ E1) _ (n + (L2).length) (61) rfl (by (try simp only [List.length_append, List.length_cons, List.length_nil]) <;> omega) (and255 (by decide))) (lw_V q2540 q2542 qs121 q138 q2543) (by decide +kernel) (ci := 5) rfl rfl mw_mem0 (by decide) (by decide) rfl hl rfl (Nat.le_of_ble_eq_true rfl) dX7_putSigns_204 (by omega) (fun _ H locs _ h => ?_)
        rw [apM_app] at h
        have h : Wd D B s (mw dA h0 ad (apM M 11 10 n (L2 ++ [61])) ++ (F ++ E1)) H locs := h
        refine lv_bipush (v := nI 18) hx hb dX7_putSigns_207 (by decide) ?_
        refine lv_istore (lv' := [(6, .int (nI 18)), (5, .int (nI (crcS gl))), (0, .ref h0), (1, .int (nI gl.length)), (2, .int (nI k)), (3, .ref (ad 9)), (4, .int (nI (4 * ((gl.length + 2) / 3))))]) hx hb dX7_putSigns_209 hl (by decide) rfl (fun ls hl => ?_)
        refine lv_iload hx hb dX7_putSigns_211 (lv_at hl 0 rfl) ?_
        refine n_if_lt (tgt := 237) hx hb (by omega) dX7_putSigns_213 (by decide) ?_
        refine lv_aload_n hx hb dX7_putSigns_216 rfl (lv_at hl 2 rfl) ?_
        refine lv_iload hx hb dX7_putSigns_217 (lv_at hl 1 rfl) ?_
        refine lv_iload hx hb dX7_putSigns_219 (lv_at hl 0 rfl) ?_
        refine n_ishr hx hb dX7_putSigns_221 (n_top (y := nI ((crcS gl) / 262144)) (pk_shrN (by omega) _ 18 (by decide)) ?_)
        refine lv_bipush (v := nI 63) hx hb dX7_putSigns_222 (by decide) ?_
        refine lv_iand hx hb dX7_putSigns_224 (n_top (y := nI (((crcS gl) / 262144) % 64)) (pk_andN (by omega) 6 (by decide)) ?_)
        refine call_S (As := [.int (nI (((crcS gl) / 262144) % 64))]) (rest := [.ref h0]) (n := 1) C h (c7_signOf l D dA B Z hZ _ (crcS gl / 262144 % 64) (Nat.lt_of_lt_of_le (Nat.mod_lt _ (by decide)) (by decide))) (lw_S q2571 q2572 q138 q2573) (by decide +kernel) (by decide) (by decide) rfl hl rfl (Nat.le_of_ble_eq_true rfl) dX7_putSigns_225 (by omega) (fun _ H locs _ h => ?_)
        refine call_V (As := [.int (nI (sgnN (crcS gl / 262144 % 64)))]) (rest := []) (n := 1) C h (c7_put l D dA B Z hZ h0 ad (apM M 11 10 n (L2 ++ [61])) (F ++ E1) _ (n + (L2 ++ [61]).length) (sgnN (crcS gl / 262144 % 64)) rfl (by (try simp only [List.length_append, List.length_cons, List.length_nil]) <;> omega) (and255 (Nat.lt_trans (sgnN_lt (Nat.mod_lt _ (by decide))) (by decide)))) (lw_V q2540 q2542 qs121 q138 q2543) (by decide +kernel) (ci := 5) rfl rfl mw_mem0 (by decide) (by decide) rfl hl rfl (Nat.le_of_ble_eq_true rfl) dX7_putSigns_228 (by omega) (fun _ H locs _ h => ?_)
        rw [apM_app] at h
        have h : Wd D B s (mw dA h0 ad (apM M 11 10 n (L2 ++ [61] ++ [sgnN (crcS gl / 262144 % 64)])) ++ (F ++ E1)) H locs := h
        refine lv_iinc (v := nI 12) (lv' := [(6, .int (nI 12)), (5, .int (nI (crcS gl))), (0, .ref h0), (1, .int (nI gl.length)), (2, .int (nI k)), (3, .ref (ad 9)), (4, .int (nI (4 * ((gl.length + 2) / 3))))]) hx hb dX7_putSigns_231 hl (k := 0) rfl (by decide) (by decide) rfl (fun ls hl => ?_)
        refine lv_goto (tgt := 211) hx hb dX7_putSigns_234 (by decide) ?_
        refine lv_iload hx hb dX7_putSigns_211 (lv_at hl 0 rfl) ?_
        refine n_if_lt (tgt := 237) hx hb (by omega) dX7_putSigns_213 (by decide) ?_
        refine lv_aload_n hx hb dX7_putSigns_216 rfl (lv_at hl 2 rfl) ?_
        refine lv_iload hx hb dX7_putSigns_217 (lv_at hl 1 rfl) ?_
        refine lv_iload hx hb dX7_putSigns_219 (lv_at hl 0 rfl) ?_
        refine n_ishr hx hb dX7_putSigns_221 (n_top (y := nI ((crcS gl) / 4096)) (pk_shrN (by omega) _ 12 (by decide)) ?_)
        refine lv_bipush (v := nI 63) hx hb dX7_putSigns_222 (by decide) ?_
        refine lv_iand hx hb dX7_putSigns_224 (n_top (y := nI (((crcS gl) / 4096) % 64)) (pk_andN (by omega) 6 (by decide)) ?_)
        refine call_S (As := [.int (nI (((crcS gl) / 4096) % 64))]) (rest := [.ref h0]) (n := 1) C h (c7_signOf l D dA B Z hZ _ (crcS gl / 4096 % 64) (Nat.lt_of_lt_of_le (Nat.mod_lt _ (by decide)) (by decide))) (lw_S q2571 q2572 q138 q2573) (by decide +kernel) (by decide) (by decide) rfl hl rfl (Nat.le_of_ble_eq_true rfl) dX7_putSigns_225 (by omega) (fun _ H locs _ h => ?_)
        refine call_V (As := [.int (nI (sgnN (crcS gl / 4096 % 64)))]) (rest := []) (n := 1) C h (c7_put l D dA B Z hZ h0 ad (apM M 11 10 n (L2 ++ [61] ++ [sgnN (crcS gl / 262144 % 64)])) (F ++ E1) _ (n + (L2 ++ [61] ++ [sgnN (crcS gl / 262144 % 64)]).length) (sgnN (crcS gl / 4096 % 64)) rfl (by (try simp only [List.length_append, List.length_cons, List.length_nil]) <;> omega) (and255 (Nat.lt_trans (sgnN_lt (Nat.mod_lt _ (by decide))) (by decide)))) (lw_V q2540 q2542 qs121 q138 q2543) (by decide +kernel) (ci := 5) rfl rfl mw_mem0 (by decide) (by decide) rfl hl rfl (Nat.le_of_ble_eq_true rfl) dX7_putSigns_228 (by omega) (fun _ H locs _ h => ?_)
        rw [apM_app] at h
        have h : Wd D B s (mw dA h0 ad (apM M 11 10 n (L2 ++ [61] ++ [sgnN (crcS gl / 262144 % 64)] ++ [sgnN (crcS gl / 4096 % 64)])) ++ (F ++ E1)) H locs := h
        refine lv_iinc (v := nI 6) (lv' := [(6, .int (nI 6)), (5, .int (nI (crcS gl))), (0, .ref h0), (1, .int (nI gl.length)), (2, .int (nI k)), (3, .ref (ad 9)), (4, .int (nI (4 * ((gl.length + 2) / 3))))]) hx hb dX7_putSigns_231 hl (k := 0) rfl (by decide) (by decide) rfl (fun ls hl => ?_)
        refine lv_goto (tgt := 211) hx hb dX7_putSigns_234 (by decide) ?_
        refine lv_iload hx hb dX7_putSigns_211 (lv_at hl 0 rfl) ?_
        refine n_if_lt (tgt := 237) hx hb (by omega) dX7_putSigns_213 (by decide) ?_
        refine lv_aload_n hx hb dX7_putSigns_216 rfl (lv_at hl 2 rfl) ?_
        refine lv_iload hx hb dX7_putSigns_217 (lv_at hl 1 rfl) ?_
        refine lv_iload hx hb dX7_putSigns_219 (lv_at hl 0 rfl) ?_
        refine n_ishr hx hb dX7_putSigns_221 (n_top (y := nI ((crcS gl) / 64)) (pk_shrN (by omega) _ 6 (by decide)) ?_)
        refine lv_bipush (v := nI 63) hx hb dX7_putSigns_222 (by decide) ?_
        refine lv_iand hx hb dX7_putSigns_224 (n_top (y := nI (((crcS gl) / 64) % 64)) (pk_andN (by omega) 6 (by decide)) ?_)
        refine call_S (As := [.int (nI (((crcS gl) / 64) % 64))]) (rest := [.ref h0]) (n := 1) C h (c7_signOf l D dA B Z hZ _ (crcS gl / 64 % 64) (Nat.lt_of_lt_of_le (Nat.mod_lt _ (by decide)) (by decide))) (lw_S q2571 q2572 q138 q2573) (by decide +kernel) (by decide) (by decide) rfl hl rfl (Nat.le_of_ble_eq_true rfl) dX7_putSigns_225 (by omega) (fun _ H locs _ h => ?_)
        refine call_V (As := [.int (nI (sgnN (crcS gl / 64 % 64)))]) (rest := []) (n := 1) C h (c7_put l D dA B Z hZ h0 ad (apM M 11 10 n (L2 ++ [61] ++ [sgnN (crcS gl / 262144 % 64)] ++ [sgnN (crcS gl / 4096 % 64)])) (F ++ E1) _ (n + (L2 ++ [61] ++ [sgnN (crcS gl / 262144 % 64)] ++ [sgnN (crcS gl / 4096 % 64)]).length) (sgnN (crcS gl / 64 % 64)) rfl (by (try simp only [List.length_append, List.length_cons, List.length_nil]) <;> omega) (and255 (Nat.lt_trans (sgnN_lt (Nat.mod_lt _ (by decide))) (by decide)))) (lw_V q2540 q2542 qs121 q138 q2543) (by decide +kernel) (ci := 5) rfl rfl mw_mem0 (by decide) (by decide) rfl hl rfl (Nat.le_of_ble_eq_true rfl) dX7_putSigns_228 (by omega) (fun _ H locs _ h => ?_)
        rw [apM_app] at h
        have h : Wd D B s (mw dA h0 ad (apM M 11 10 n (L2 ++ [61] ++ [sgnN (crcS gl / 262144 % 64)] ++ [sgnN (crcS gl / 4096 % 64)] ++ [sgnN (crcS gl / 64 % 64)])) ++ (F ++ E1)) H locs := h
        refine lv_iinc (v := nI 0) (lv' := [(6, .int (nI 0)), (5, .int (nI (crcS gl))), (0, .ref h0), (1, .int (nI gl.length)), (2, .int (nI k)), (3, .ref (ad 9)), (4, .int (nI (4 * ((gl.length + 2) / 3))))]) hx hb dX7_putSigns_231 hl (k := 0) rfl (by decide) (by decide) rfl (fun ls hl => ?_)
        refine lv_goto (tgt := 211) hx hb dX7_putSigns_234 (by decide) ?_
        refine lv_iload hx hb dX7_putSigns_211 (lv_at hl 0 rfl) ?_
        refine n_if_lt (tgt := 237) hx hb (by omega) dX7_putSigns_213 (by decide) ?_
        refine lv_aload_n hx hb dX7_putSigns_216 rfl (lv_at hl 2 rfl) ?_
        refine lv_iload hx hb dX7_putSigns_217 (lv_at hl 1 rfl) ?_
        refine lv_iload hx hb dX7_putSigns_219 (lv_at hl 0 rfl) ?_
        refine n_ishr hx hb dX7_putSigns_221 (n_top (y := nI ((crcS gl) / 1)) (pk_shrN (by omega) _ 0 (by decide)) ?_)
        refine lv_bipush (v := nI 63) hx hb dX7_putSigns_222 (by decide) ?_
        refine lv_iand hx hb dX7_putSigns_224 (n_top (y := nI (((crcS gl) / 1) % 64)) (pk_andN (by omega) 6 (by decide)) ?_)
        refine call_S (As := [.int (nI (((crcS gl) / 1) % 64))]) (rest := [.ref h0]) (n := 1) C h (c7_signOf l D dA B Z hZ _ (crcS gl / 1 % 64) (Nat.lt_of_lt_of_le (Nat.mod_lt _ (by decide)) (by decide))) (lw_S q2571 q2572 q138 q2573) (by decide +kernel) (by decide) (by decide) rfl hl rfl (Nat.le_of_ble_eq_true rfl) dX7_putSigns_225 (by omega) (fun _ H locs _ h => ?_)
        refine call_V (As := [.int (nI (sgnN (crcS gl / 1 % 64)))]) (rest := []) (n := 1) C h (c7_put l D dA B Z hZ h0 ad (apM M 11 10 n (L2 ++ [61] ++ [sgnN (crcS gl / 262144 % 64)] ++ [sgnN (crcS gl / 4096 % 64)] ++ [sgnN (crcS gl / 64 % 64)])) (F ++ E1) _ (n + (L2 ++ [61] ++ [sgnN (crcS gl / 262144 % 64)] ++ [sgnN (crcS gl / 4096 % 64)] ++ [sgnN (crcS gl / 64 % 64)]).length) (sgnN (crcS gl / 1 % 64)) rfl (by (try simp only [List.length_append, List.length_cons, List.length_nil]) <;> omega) (and255 (Nat.lt_trans (sgnN_lt (Nat.mod_lt _ (by decide))) (by decide)))) (lw_V q2540 q2542 qs121 q138 q2543) (by decide +kernel) (ci := 5) rfl rfl mw_mem0 (by decide) (by decide) rfl hl rfl (Nat.le_of_ble_eq_true rfl) dX7_putSigns_228 (by omega) (fun _ H locs _ h => ?_)
        rw [apM_app] at h
        have h : Wd D B s (mw dA h0 ad (apM M 11 10 n (L2 ++ [61] ++ [sgnN (crcS gl / 262144 % 64)] ++ [sgnN (crcS gl / 4096 % 64)] ++ [sgnN (crcS gl / 64 % 64)] ++ [sgnN (crcS gl / 1 % 64)])) ++ (F ++ E1)) H locs := h
        refine lv_iinc (v := (-6)) (lv' := [(6, .int (-6)), (5, .int (nI (crcS gl))), (0, .ref h0), (1, .int (nI gl.length)), (2, .int (nI k)), (3, .ref (ad 9)), (4, .int (nI (4 * ((gl.length + 2) / 3))))]) hx hb dX7_putSigns_231 hl (k := 0) rfl (by decide) (by decide) rfl (fun ls hl => ?_)
        refine lv_goto (tgt := 211) hx hb dX7_putSigns_234 (by decide) ?_
        refine lv_iload hx hb dX7_putSigns_211 (lv_at hl 0 rfl) ?_
        refine lv_if_lt (tgt := 237) hx hb dX7_putSigns_213 (by decide) (fun c213 => ?_) (fun c213 => by exfalso; exact c213 (by decide))
        refine lv_aload_n hx hb dX7_putSigns_237 rfl (lv_at hl 2 rfl) ?_
        refine lv_bipush (v := nI 10) hx hb dX7_putSigns_238 (by decide) ?_
        refine call_V (As := [.int (nI 10)]) (rest := []) (n := 1) C h (c7_put l D dA B Z hZ h0 ad (apM M 11 10 n (L2 ++ [61] ++ [sgnN (crcS gl / 262144 % 64)] ++ [sgnN (crcS gl / 4096 % 64)] ++ [sgnN (crcS gl / 64 % 64)] ++ [sgnN (crcS gl / 1 % 64)])) (F ++ E1) _ (n + (L2 ++ [61] ++ [sgnN (crcS gl / 262144 % 64)] ++ [sgnN (crcS gl / 4096 % 64)] ++ [sgnN (crcS gl / 64 % 64)] ++ [sgnN (crcS gl / 1 % 64)]).length) (10) rfl (by (try simp only [List.length_append, List.length_cons, List.length_nil]) <;> omega) (and255 (by decide))) (lw_V q2540 q2542 qs121 q138 q2543) (by decide +kernel) (ci := 5) rfl rfl mw_mem0 (by decide) (by decide) rfl hl rfl (Nat.le_of_ble_eq_true rfl) dX7_putSigns_240 (by omega) (fun _ H locs _ h => ?_)
        rw [apM_app] at h
        have h : Wd D B s (mw dA h0 ad (apM M 11 10 n (L2 ++ [61] ++ [sgnN (crcS gl / 262144 % 64)] ++ [sgnN (crcS gl / 4096 % 64)] ++ [sgnN (crcS gl / 64 % 64)] ++ [sgnN (crcS gl / 1 % 64)] ++ [10])) ++ (F ++ E1)) H locs := h
        refine lv_aload_n hx hb dX7_putSigns_243 rfl (lv_at hl 2 rfl) ?_
        obtain ⟨L4, hL4⟩ : ∃ z, z = L2 ++ [61] ++ [sgnN (crcS gl / 262144 % 64)] ++ [sgnN (crcS gl / 4096 % 64)] ++ [sgnN (crcS gl / 64 % 64)] ++ [sgnN (crcS gl / 1 % 64)] ++ [10] := ⟨_, rfl⟩
        rw [← hL4] at h
        have hL4l : L4.length ≤ 108 + 2 * i := by rw [hL4]; simp only [List.length_append, List.length_cons, List.length_nil]; omega
        have h : Wd D B s (mw dA h0 ad (apM M 11 10 n L4) ++ (F ++ E1)) H locs := h
        refine o_new C h (RC := RJ12) (T := TJ12) (N := 4) (ci := 18) (fs := [.null, .int 0, .int (bZ false), .int 0]) rfl in_J12 tyJ12_ok q2136 q700 q155 dv_J12 (by omega) (by omega) dX7_putSigns_244 (fun o2 H h => ?_)
        have h : Wd D B s ([(o2, .inr (18, [.null, .int 0, .int (bZ false), .int 0]))] ++ (mw dA h0 ad (apM M 11 10 n L4) ++ (F ++ E1))) H locs := h.permL (perm_add (fun g f p0 p1 p2 => by (try simp only [p0, p1, p2]) <;> omega))
        refine lv_dup hx hb dX7_putSigns_247 rfl ?_
        refine call_I (As := []) (rest := [.ref o2, .ref h0]) (n := 0) C h (cJ_sbInit l D dA B Z hZ (mw dA h0 ad (apM M 11 10 n L4) ++ (F ++ E1)) o2 hzs) (lw_meth q703) q155 q2137 q702 rfl (by decide +kernel) (by decide) (by decide) rfl hl rfl (Nat.le_of_ble_eq_true rfl) dX7_putSigns_248 (by omega) (fun v0d H locs _ h => ?_)
        have h : Wd D B s ([(o2, .inr (18, [.ref v0d, .int (nI 0), .int (bZ false), .int (nI (([] : List Nat).length))])), (v0d, bar dA 16 (fun _ => 0))] ++ (mw dA h0 ad (apM M 11 10 n L4) ++ (F ++ E1))) H locs := h.permL (perm_add (fun g f p0 p1 p2 => by (try simp only [p0, p1, p2]) <;> omega))
        have hnl9 : ([] : List Nat).length = 0 := rfl
        have hsb0d := SBis_0
        have hnn0d : (16 : Nat) ≤ 16 := Nat.le_refl _
        refine s_ldcw C h hr257 dX7_putSigns_251 ?_
        have hle1d : ([45, 45, 45, 45, 45, 69, 78, 68, 32]).length ≤ 20 := by decide
        refine call_VR (As := [.ref sa257]) (rest := [.ref h0]) (n := 1) C h (cJ_append l D dA B Z hZ (mw dA h0 ad (apM M 11 10 n L4) ++ (F ++ E1)) o2 v0d 16 (fun _ => 0) false ([] : List Nat) sa257 sv257 ([45, 45, 45, 45, 45, 69, 78, 68, 32]) (nilup hk257 _) (by intro x hx; revert x; decide) (by omega) hzs hsb0d (by omega) (by (try simp only [List.length_append, List.length_nil]) <;> omega)) (lw_V q2139 q732 q733 q155 q734) (by decide +kernel) (o_recv C h (RC := RJ12) (T := TJ12) (N := 4) (List.mem_of_getElem? (i := 0) rfl) rfl) (by decide) (by decide) rfl hl rfl (Nat.le_of_ble_eq_true rfl) dX7_putSigns_254 (by omega) (fun u1d H locs hu1d h => ?_)
        obtain ⟨v1d, n1d, g1d, E1d⟩ := u1d
        obtain ⟨hsb1d, hnn1d⟩ := hu1d
        have h : Wd D B s ([(o2, .inr (18, [.ref v1d, .int (nI 0), .int (bZ false), .int (nI ((([] : List Nat) ++ [45, 45, 45, 45, 45, 69, 78, 68, 32]).length))])), (v1d, bar dA n1d g1d)] ++ ((mw dA h0 ad (apM M 11 10 n L4) ++ (F ++ E1)) ++ E1d)) H locs := h.permL (perm_add (fun g f p0 p1 p2 => by (try simp only [p0, p1, p2]) <;> omega))
        have hsb1d : SBis g1d n1d (([] : List Nat) ++ [45, 45, 45, 45, 45, 69, 78, 68, 32]) := hsb1d
        have hnn1d : n1d ≤ 2 * 16 + 2 + ((([] : List Nat)).length + ([45, 45, 45, 45, 45, 69, 78, 68, 32]).length) := hnn1d
        have hll1d : (([] : List Nat) ++ [45, 45, 45, 45, 45, 69, 78, 68, 32]).length ≤ 20 := by simp only [List.length_append, List.length_nil] at *; omega
        have hnz1d : n1d ≤ 54 := by simp only [List.length_nil] at hnn1d; omega
        refine lv_iload_n hx hb dX7_putSigns_257 rfl (lv_at hl 4 rfl) ?_
        refine call_S (As := [.int (nI k)]) (rest := [.ref o2, .ref h0]) (n := 1) C h (c7_label l D dA B Z hZ _ k hzs (by omega)) (lw_S q2140 q2141 q138 q2142) (by decide +kernel) (by decide) (by decide) rfl hl rfl (Nat.le_of_ble_eq_true rfl) dX7_putSigns_258 (by omega) (fun ulr H locs hulr h => ?_)
        obtain ⟨lar, lvr⟩ := ulr
        have hulr : StrV dA B Z [] lar lvr (labL k) := hulr
        have hle2d : (labL k).length ≤ 20 := Nat.le_trans (labL_len k) (by decide)
        refine call_VR (As := [.ref lar]) (rest := [.ref h0]) (n := 1) C h (cJ_append l D dA B Z hZ ((mw dA h0 ad (apM M 11 10 n L4) ++ (F ++ E1)) ++ E1d) o2 v1d n1d g1d false (([] : List Nat) ++ [45, 45, 45, 45, 45, 69, 78, 68, 32]) lar lvr (labL k) (nilup hulr _) (labL_byt k) (by omega) hzs hsb1d (by omega) (by (try simp only [List.length_append, List.length_nil]) <;> omega)) (lw_V q2139 q732 q733 q155 q734) (by decide +kernel) (o_recv C h (RC := RJ12) (T := TJ12) (N := 4) (List.mem_of_getElem? (i := 0) rfl) rfl) (by decide) (by decide) rfl hl rfl (Nat.le_of_ble_eq_true rfl) dX7_putSigns_261 (by omega) (fun u2d H locs hu2d h => ?_)
        obtain ⟨v2d, n2d, g2d, E2d⟩ := u2d
        obtain ⟨hsb2d, hnn2d⟩ := hu2d
        have h : Wd D B s ([(o2, .inr (18, [.ref v2d, .int (nI 0), .int (bZ false), .int (nI ((([] : List Nat) ++ [45, 45, 45, 45, 45, 69, 78, 68, 32] ++ labL k).length))])), (v2d, bar dA n2d g2d)] ++ (((mw dA h0 ad (apM M 11 10 n L4) ++ (F ++ E1)) ++ E1d) ++ E2d)) H locs := h.permL (perm_add (fun g f p0 p1 p2 => by (try simp only [p0, p1, p2]) <;> omega))
        have hsb2d : SBis g2d n2d (([] : List Nat) ++ [45, 45, 45, 45, 45, 69, 78, 68, 32] ++ labL k) := hsb2d
        have hnn2d : n2d ≤ 2 * n1d + 2 + ((([] : List Nat) ++ [45, 45, 45, 45, 45, 69, 78, 68, 32]).length + (labL k).length) := hnn2d
        have hll2d : (([] : List Nat) ++ [45, 45, 45, 45, 45, 69, 78, 68, 32] ++ labL k).length ≤ 40 := by simp only [List.length_append, List.length_nil] at *; omega
        have hnz2d : n2d ≤ 150 := by omega
        refine s_ldcw C h hr263 dX7_putSigns_264 ?_
        have hle3d : ([45, 45, 45, 45, 45]).length ≤ 20 := by decide
        refine call_VR (As := [.ref sa263]) (rest := [.ref h0]) (n := 1) C h (cJ_append l D dA B Z hZ (((mw dA h0 ad (apM M 11 10 n L4) ++ (F ++ E1)) ++ E1d) ++ E2d) o2 v2d n2d g2d false (([] : List Nat) ++ [45, 45, 45, 45, 45, 69, 78, 68, 32] ++ labL k) sa263 sv263 ([45, 45, 45, 45, 45]) (nilup hk263 _) (by intro x hx; revert x; decide) (by omega) hzs hsb2d (by omega) (by (try simp only [List.length_append, List.length_nil]) <;> omega)) (lw_V q2139 q732 q733 q155 q734) (by decide +kernel) (o_recv C h (RC := RJ12) (T := TJ12) (N := 4) (List.mem_of_getElem? (i := 0) rfl) rfl) (by decide) (by decide) rfl hl rfl (Nat.le_of_ble_eq_true rfl) dX7_putSigns_267 (by omega) (fun u3d H locs hu3d h => ?_)
        obtain ⟨v3d, n3d, g3d, E3d⟩ := u3d
        obtain ⟨hsb3d, hnn3d⟩ := hu3d
        have h : Wd D B s ([(o2, .inr (18, [.ref v3d, .int (nI 0), .int (bZ false), .int (nI ((([] : List Nat) ++ [45, 45, 45, 45, 45, 69, 78, 68, 32] ++ labL k ++ [45, 45, 45, 45, 45]).length))])), (v3d, bar dA n3d g3d)] ++ ((((mw dA h0 ad (apM M 11 10 n L4) ++ (F ++ E1)) ++ E1d) ++ E2d) ++ E3d)) H locs := h.permL (perm_add (fun g f p0 p1 p2 => by (try simp only [p0, p1, p2]) <;> omega))
        have hsb3d : SBis g3d n3d (([] : List Nat) ++ [45, 45, 45, 45, 45, 69, 78, 68, 32] ++ labL k ++ [45, 45, 45, 45, 45]) := hsb3d
        have hnn3d : n3d ≤ 2 * n2d + 2 + ((([] : List Nat) ++ [45, 45, 45, 45, 45, 69, 78, 68, 32] ++ labL k).length + ([45, 45, 45, 45, 45]).length) := hnn3d
        have hll3d : (([] : List Nat) ++ [45, 45, 45, 45, 45, 69, 78, 68, 32] ++ labL k ++ [45, 45, 45, 45, 45]).length ≤ 60 := by simp only [List.length_append, List.length_nil] at *; omega
        have hnz3d : n3d ≤ 370 := by omega
        refine call_VR (As := []) (rest := [.ref h0]) (n := 0) C h (cJ_toString l D dA B Z hZ ((((mw dA h0 ad (apM M 11 10 n L4) ++ (F ++ E1)) ++ E1d) ++ E2d) ++ E3d) o2 v3d n3d g3d false (([] : List Nat) ++ [45, 45, 45, 45, 45, 69, 78, 68, 32] ++ labL k ++ [45, 45, 45, 45, 45]) hzs hsb3d (by omega)) (lw_V q2147 q829 q830 q155 q831) (by decide +kernel) (o_recv C h (RC := RJ12) (T := TJ12) (N := 4) (List.mem_of_getElem? (i := 0) rfl) rfl) (by decide) (by decide) rfl hl rfl (Nat.le_of_ble_eq_true rfl) dX7_putSigns_270 (by omega) (fun usd H locs _ h => ?_)
        obtain ⟨srd, sqd⟩ := usd
        have h : Wd D B s ([(srd, .inr (17, [.ref sqd, .int (nI 0), .int 0, .int (bZ false)])), (sqd, bal dA (([] : List Nat) ++ [45, 45, 45, 45, 45, 69, 78, 68, 32] ++ labL k ++ [45, 45, 45, 45, 45])), (o2, .inr (18, [.ref v3d, .int (nI 0), .int (bZ false), .int (nI ((([] : List Nat) ++ [45, 45, 45, 45, 45, 69, 78, 68, 32] ++ labL k ++ [45, 45, 45, 45, 45]).length))])), (v3d, bar dA n3d g3d)] ++ ((((mw dA h0 ad (apM M 11 10 n L4) ++ (F ++ E1)) ++ E1d) ++ E2d) ++ E3d)) H locs := h.permL (perm_add (fun g f p0 p1 p2 => by (try simp only [p0, p1, p2]) <;> omega))
        obtain ⟨Ld, hLd⟩ : ∃ z, z = ([] : List Nat) ++ [45, 45, 45, 45, 45, 69, 78, 68, 32] ++ labL k ++ [45, 45, 45, 45, 45] := ⟨_, rfl⟩
        have h : Wd D B s (mw dA h0 ad (apM M 11 10 n L4) ++ ((F ++ E1) ++ ([(srd, .inr (17, [.ref sqd, .int (nI 0), .int 0, .int (bZ false)])), (sqd, bal dA (([] : List Nat) ++ [45, 45, 45, 45, 45, 69, 78, 68, 32] ++ labL k ++ [45, 45, 45, 45, 45])), (o2, .inr (18, [.ref v3d, .int (nI 0), .int (bZ false), .int (nI ((([] : List Nat) ++ [45, 45, 45, 45, 45, 69, 78, 68, 32] ++ labL k ++ [45, 45, 45, 45, 45]).length))])), (v3d, bar dA n3d g3d)] ++ (E1d ++ E2d ++ E3d)))) H locs := h.permL (perm_add (fun g f p0 p1 p2 => by (try simp only [p0, p1, p2]) <;> omega))
        rw [← hLd] at h
        have hLdl : Ld.length < 100 := by rw [hLd]; omega
        have hLdb : byt Ld := by rw [hLd]; exact byt_app (byt_app (byt_app (fun x hx => absurd hx List.not_mem_nil) (by intro x hx; revert x; decide)) (labL_byt k)) (by intro x hx; revert x; decide)
        have hstd : StrV dA B Z ((F ++ E1) ++ ([(srd, .inr (17, [.ref sqd, .int (nI 0), .int 0, .int (bZ false)])), (sqd, bal dA Ld), (o2, .inr (18, [.ref v3d, .int (nI 0), .int (bZ false), .int (nI Ld.length)])), (v3d, bar dA n3d g3d)] ++ (E1d ++ E2d ++ E3d))) srd sqd Ld := Or.inl ⟨.int 0, .int (bZ false), List.mem_append_right _ (List.mem_append_left _ List.mem_cons_self), List.mem_append_right _ (List.mem_append_left _ (List.mem_cons_of_mem _ List.mem_cons_self))⟩
        obtain ⟨E2, hE2⟩ : ∃ z, z = ([(srd, .inr (17, [.ref sqd, .int (nI 0), .int 0, .int (bZ false)])), (sqd, bal dA Ld), (o2, .inr (18, [.ref v3d, .int (nI 0), .int (bZ false), .int (nI Ld.length)])), (v3d, bar dA n3d g3d)] ++ (E1d ++ E2d ++ E3d)) := ⟨_, rfl⟩
        rw [← hE2] at h hstd
        have hLe : Ld = enL k := hLd
        refine call_V (As := [.ref srd]) (rest := []) (n := 1) C h (c7_putText l D dA B Z hZ h0 ad (apM M 11 10 n L4) (F ++ E1 ++ E2) srd sqd Ld (n + L4.length) hzs rfl hstd hLdb (by omega) (by omega)) (lw_V q2536 q2538 qs120 q138 q2539) (by decide +kernel) (ci := 5) rfl rfl mw_mem0 (by decide) (by decide) rfl hl rfl (Nat.le_of_ble_eq_true rfl) dX7_putSigns_273 (by omega) (fun _ H locs _ h => ?_)
        rw [apM_app] at h
        have h : Wd D B s (mw dA h0 ad (apM M 11 10 n (L4 ++ Ld)) ++ (F ++ E1 ++ E2)) H locs := h
        refine lv_aload_n hx hb dX7_putSigns_276 rfl (lv_at hl 2 rfl) ?_
        refine lv_bipush (v := nI 10) hx hb dX7_putSigns_277 (by decide) ?_
        refine call_V (As := [.int (nI 10)]) (rest := []) (n := 1) C h (c7_put l D dA B Z hZ h0 ad (apM M 11 10 n (L4 ++ Ld)) (F ++ E1 ++ E2) _ (n + (L4 ++ Ld).length) (10) rfl (by (try simp only [List.length_append, List.length_cons, List.length_nil]) <;> omega) (and255 (by decide))) (lw_V q2540 q2542 qs121 q138 q2543) (by decide +kernel) (ci := 5) rfl rfl mw_mem0 (by decide) (by decide) rfl hl rfl (Nat.le_of_ble_eq_true rfl) dX7_putSigns_279 (by omega) (fun _ H locs _ h => ?_)
        rw [apM_app] at h
        have h : Wd D B s (mw dA h0 ad (apM M 11 10 n (L4 ++ Ld ++ [10])) ++ (F ++ E1 ++ E2)) H locs := h
        subst hQ
        have hfin : L4 ++ Ld ++ [10] = armL k gl := by
          rw [hL4, hL2, hL1, hLb, hLe, hie]; rfl
        have h : Wd D B s (mw dA h0 ad (apM M 11 10 n (armL k gl)) ++ (F ++ (E1 ++ E2))) H locs := by rw [← hfin, ← List.append_assoc F]; exact h
        exact ret_v C hr hlocks h (E1 ++ E2) trivial rfl rfl (by omega) (by omega) dX7_putSigns_282
      · refine lv_bipush (v := nI 6) hx hb dX7_putSigns_69 (by decide) ?_
        refine lv_iload hx hb dX7_putSigns_71 (lv_at hl 0 rfl) ?_
        refine lv_imul hx hb dX7_putSigns_73 (n_top (y := nI (6 * i)) (pk_mul 6 i) ?_)
        refine lv_bipush (v := nI 8) hx hb dX7_putSigns_74 (by decide) ?_
        refine lv_irem hx hb dX7_putSigns_76 (by decide) (n_top (y := nI ((6 * i) % 8)) (pk_rem (by omega) (by omega) (by omega)) ?_)
        refine lv_istore (lv' := [(6, .int (nI ((6 * i) % 8))), (5, .int (nI i)), (0, .ref h0), (1, .int (nI gl.length)), (2, .int (nI k)), (3, .ref (ad 9)), (4, .int (nI (4 * ((gl.length + 2) / 3))))]) hx hb dX7_putSigns_77 hl (by decide) rfl (fun ls hl => ?_)
        refine lv_bipush (v := nI 6) hx hb dX7_putSigns_79 (by decide) ?_
        refine lv_iload hx hb dX7_putSigns_81 (lv_at hl 1 rfl) ?_
        refine lv_imul hx hb dX7_putSigns_83 (n_top (y := nI (6 * i)) (pk_mul 6 i) ?_)
        refine lv_bipush (v := nI 8) hx hb dX7_putSigns_84 (by decide) ?_
        refine lv_idiv hx hb dX7_putSigns_86 (by decide) (n_top (y := nI ((6 * i) / 8)) (pk_div (by omega) (by omega) (by omega)) ?_)
        refine lv_istore (lv' := [(7, .int (nI ((6 * i) / 8))), (6, .int (nI ((6 * i) % 8))), (5, .int (nI i)), (0, .ref h0), (1, .int (nI gl.length)), (2, .int (nI k)), (3, .ref (ad 9)), (4, .int (nI (4 * ((gl.length + 2) / 3))))]) hx hb dX7_putSigns_87 hl (by decide) rfl (fun ls hl => ?_)
        have hb1 := byt_gD hgb ((6 * i) / 8)
        have hb2 := byt_gD hgb ((6 * i) / 8 + 1)
        have ja : ∀ (H : Heap) (locs : List Loc), Wd D B s (mw dA h0 ad (apM M 11 10 n (L1 ++ sgS gl i)) ++ (F ++ E1)) H locs → ∀ (ls : Array Slot), lv_has ls 9 [(7, .int (nI ((6 * i) / 8))), (6, .int (nI ((6 * i) % 8))), (5, .int (nI i)), (0, .ref h0), (1, .int (nI gl.length)), (2, .int (nI k)), (3, .ref (ad 9)), (4, .int (nI (4 * ((gl.length + 2) / 3))))] → W p l e R s m args below meth c H locs (0 + 1 + 1 + 1 + 0 + 1 + 1 + 2 + 0 + 0 + 0) (0 + 4 + 16 + (2 * 16 + 2 + ((([] : List Nat)).length + ([45, 45, 45, 45, 45, 66, 69, 71, 73, 78, 32]).length)) + 0 + (2 * n1c + 2 + ((([] : List Nat) ++ [45, 45, 45, 45, 45, 66, 69, 71, 73, 78, 32]).length + (labL k).length)) + (2 * n2c + 2 + ((([] : List Nat) ++ [45, 45, 45, 45, 45, 66, 69, 71, 73, 78, 32] ++ labL k).length + ([45, 45, 45, 45, 45]).length)) + (4 + (([] : List Nat) ++ [45, 45, 45, 45, 45, 66, 69, 71, 73, 78, 32] ++ labL k ++ [45, 45, 45, 45, 45]).length) + 0 + 0 + 0) Q (F0 m 107 ls [.int (nI (gD gl ((6 * i) / 8) * 256))]) := by
          intro   H locs h ls hl
          have jb : ∀ (H : Heap) (locs : List Loc), Wd D B s (mw dA h0 ad (apM M 11 10 n (L1 ++ sgS gl i)) ++ (F ++ E1)) H locs → ∀ (ls : Array Slot), lv_has ls 9 [(7, .int (nI ((6 * i) / 8))), (6, .int (nI ((6 * i) % 8))), (5, .int (nI i)), (0, .ref h0), (1, .int (nI gl.length)), (2, .int (nI k)), (3, .ref (ad 9)), (4, .int (nI (4 * ((gl.length + 2) / 3))))] → W p l e R s m args below meth c H locs (0 + 1 + 1 + 1 + 0 + 1 + 1 + 2 + 0 + 0 + 0) (0 + 4 + 16 + (2 * 16 + 2 + ((([] : List Nat)).length + ([45, 45, 45, 45, 45, 66, 69, 71, 73, 78, 32]).length)) + 0 + (2 * n1c + 2 + ((([] : List Nat) ++ [45, 45, 45, 45, 45, 66, 69, 71, 73, 78, 32]).length + (labL k).length)) + (2 * n2c + 2 + ((([] : List Nat) ++ [45, 45, 45, 45, 45, 66, 69, 71, 73, 78, 32] ++ labL k).length + ([45, 45, 45, 45, 45]).length)) + (4 + (([] : List Nat) ++ [45, 45, 45, 45, 45, 66, 69, 71, 73, 78, 32] ++ labL k ++ [45, 45, 45, 45, 45]).length) + 0 + 0 + 0) Q (F0 m 125 ls [.int (nI (gD gl ((6 * i) / 8 + 1))), .int (nI (gD gl ((6 * i) / 8) * 256))]) := by
            intro   H locs h ls hl
            refine lv_iadd hx hb dX7_putSigns_125 (n_top (y := nI ((gD gl ((6 * i) / 8) * 256) + (gD gl ((6 * i) / 8 + 1)))) (nI_add (gD gl ((6 * i) / 8) * 256) (gD gl ((6 * i) / 8 + 1))) ?_)
            refine lv_istore (lv' := [(8, .int (nI ((gD gl ((6 * i) / 8) * 256) + (gD gl ((6 * i) / 8 + 1))))), (7, .int (nI ((6 * i) / 8))), (6, .int (nI ((6 * i) % 8))), (5, .int (nI i)), (0, .ref h0), (1, .int (nI gl.length)), (2, .int (nI k)), (3, .ref (ad 9)), (4, .int (nI (4 * ((gl.length + 2) / 3))))]) hx hb dX7_putSigns_126 hl (by decide) rfl (fun ls hl => ?_)
            have js : ∀ (H : Heap) (locs : List Loc), Wd D B s (mw dA h0 ad (apM M 11 10 n (L1 ++ sgS gl i)) ++ (F ++ E1)) H locs → ∀ (ls : Array Slot), lv_has ls 9 [(8, .int (nI ((gD gl ((6 * i) / 8) * 256) + (gD gl ((6 * i) / 8 + 1))))), (7, .int (nI ((6 * i) / 8))), (6, .int (nI ((6 * i) % 8))), (5, .int (nI i)), (0, .ref h0), (1, .int (nI gl.length)), (2, .int (nI k)), (3, .ref (ad 9)), (4, .int (nI (4 * ((gl.length + 2) / 3))))] → W p l e R s m args below meth c H locs (0 + 1 + 1 + 1 + 0 + 1 + 1 + 2 + 0 + 0 + 0) (0 + 4 + 16 + (2 * 16 + 2 + ((([] : List Nat)).length + ([45, 45, 45, 45, 45, 66, 69, 71, 73, 78, 32]).length)) + 0 + (2 * n1c + 2 + ((([] : List Nat) ++ [45, 45, 45, 45, 45, 66, 69, 71, 73, 78, 32]).length + (labL k).length)) + (2 * n2c + 2 + ((([] : List Nat) ++ [45, 45, 45, 45, 45, 66, 69, 71, 73, 78, 32] ++ labL k).length + ([45, 45, 45, 45, 45]).length)) + (4 + (([] : List Nat) ++ [45, 45, 45, 45, 45, 66, 69, 71, 73, 78, 32] ++ labL k ++ [45, 45, 45, 45, 45]).length) + 0 + 0 + 0) Q (F0 m 160 ls [.int (nI (sgI gl i)), .ref h0]) := by
              intro   H locs h ls hl
              refine call_V (As := [.int (nI (sgI gl i))]) (rest := []) (n := 1) C h (c7_put l D dA B Z hZ h0 ad (apM M 11 10 n (L1 ++ sgS gl i)) (F ++ E1) _ (n + (L1 ++ sgS gl i).length) (sgI gl i) rfl (by (try simp only [List.length_append, List.length_cons, List.length_nil]) <;> omega) (and255 (Nat.lt_trans (sgI_lt gl i) (by decide)))) (lw_V q2540 q2542 qs121 q138 q2543) (by decide +kernel) (ci := 5) rfl rfl mw_mem0 (by decide) (by decide) rfl hl rfl (Nat.le_of_ble_eq_true rfl) dX7_putSigns_160 (by omega) (fun _ H locs _ h => ?_)
              rw [apM_app] at h
              have h : Wd D B s (mw dA h0 ad (apM M 11 10 n (L1 ++ sgS gl i ++ [sgI gl i])) ++ (F ++ E1)) H locs := h
              have jn : ∀ (H : Heap) (locs : List Loc), Wd D B s (mw dA h0 ad (apM M 11 10 n (L1 ++ sgS gl (i + 1))) ++ (F ++ E1)) H locs → ∀ (ls : Array Slot), lv_has ls 9 [(8, .int (nI ((gD gl ((6 * i) / 8) * 256) + (gD gl ((6 * i) / 8 + 1))))), (7, .int (nI ((6 * i) / 8))), (6, .int (nI ((6 * i) % 8))), (5, .int (nI i)), (0, .ref h0), (1, .int (nI gl.length)), (2, .int (nI k)), (3, .ref (ad 9)), (4, .int (nI (4 * ((gl.length + 2) / 3))))] → W p l e R s m args below meth c H locs (0 + 1 + 1 + 1 + 0 + 1 + 1 + 2 + 0 + 0 + 0 + 0) (0 + 4 + 16 + (2 * 16 + 2 + ((([] : List Nat)).length + ([45, 45, 45, 45, 45, 66, 69, 71, 73, 78, 32]).length)) + 0 + (2 * n1c + 2 + ((([] : List Nat) ++ [45, 45, 45, 45, 45, 66, 69, 71, 73, 78, 32]).length + (labL k).length)) + (2 * n2c + 2 + ((([] : List Nat) ++ [45, 45, 45, 45, 45, 66, 69, 71, 73, 78, 32] ++ labL k).length + ([45, 45, 45, 45, 45]).length)) + (4 + (([] : List Nat) ++ [45, 45, 45, 45, 45, 66, 69, 71, 73, 78, 32] ++ labL k ++ [45, 45, 45, 45, 45]).length) + 0 + 0 + 0 + 0) Q (F0 m 188 ls []) := by
                intro   H locs h ls hl
                refine lv_iinc (v := nI (i + 1)) (lv' := [(5, .int (nI (i + 1))), (8, .int (nI ((gD gl ((6 * i) / 8) * 256) + (gD gl ((6 * i) / 8 + 1))))), (7, .int (nI ((6 * i) / 8))), (6, .int (nI ((6 * i) % 8))), (0, .ref h0), (1, .int (nI gl.length)), (2, .int (nI k)), (3, .ref (ad 9)), (4, .int (nI (4 * ((gl.length + 2) / 3))))]) hx hb dX7_putSigns_188 hl (k := 3) rfl (nI_add i 1) (by decide) rfl (fun ls hl => ?_)
                refine lv_goto (tgt := 62) hx hb dX7_putSigns_191 (by decide) ?_
                exact ih (i + 1) (by omega) (by omega) _ _ h _ (lv_sub hl [0, 4, 5, 6, 7, 8] rfl)
              refine lv_iload hx hb dX7_putSigns_163 (lv_at hl 3 rfl) ?_
              refine lv_bipush (v := nI 64) hx hb dX7_putSigns_165 (by decide) ?_
              refine lv_irem hx hb dX7_putSigns_167 (by decide) (n_top (y := nI (i % 64)) (pk_rem (by omega) (by omega) (by omega)) ?_)
              refine lv_bipush (v := nI 63) hx hb dX7_putSigns_168 (by decide) ?_
              refine n_icmp_eq (tgt := 182) hx hb (by omega) (by omega) dX7_putSigns_170 (by decide) (fun c170 => ?_) (fun c170 => ?_)
              · refine lv_aload_n hx hb dX7_putSigns_182 rfl (lv_at hl 4 rfl) ?_
                refine lv_bipush (v := nI 10) hx hb dX7_putSigns_183 (by decide) ?_
                refine call_V (As := [.int (nI 10)]) (rest := []) (n := 1) C h (c7_put l D dA B Z hZ h0 ad (apM M 11 10 n (L1 ++ sgS gl i ++ [sgI gl i])) (F ++ E1) _ (n + (L1 ++ sgS gl i ++ [sgI gl i]).length) (10) rfl (by (try simp only [List.length_append, List.length_cons, List.length_nil]) <;> omega) (and255 (by decide))) (lw_V q2540 q2542 qs121 q138 q2543) (by decide +kernel) (ci := 5) rfl rfl mw_mem0 (by decide) (by decide) rfl hl rfl (Nat.le_of_ble_eq_true rfl) dX7_putSigns_185 (by omega) (fun _ H locs _ h => ?_)
                rw [apM_app] at h
                have h : Wd D B s (mw dA h0 ad (apM M 11 10 n (L1 ++ sgS gl i ++ [sgI gl i] ++ [10])) ++ (F ++ E1)) H locs := h
                have e9 : L1 ++ sgS gl (i + 1) = L1 ++ sgS gl i ++ [sgI gl i] ++ [10] := by rw [sgS, if_pos (by first | exact Or.inl c170 | exact Or.inr c179)]; simp only [List.append_assoc]
                have h : Wd D B s (mw dA h0 ad (apM M 11 10 n (L1 ++ sgS gl (i + 1))) ++ (F ++ E1)) H locs := by rw [e9]; exact h
                exact jn   _ _ h _ (lv_sub hl [0, 1, 2, 3, 4, 5, 6, 7, 8] rfl)
              · refine lv_iload hx hb dX7_putSigns_173 (lv_at hl 3 rfl) ?_
                refine lv_iload hx hb dX7_putSigns_175 (lv_at hl 8 rfl) ?_
                refine lv_iconst (v := nI 1) hx hb dX7_putSigns_177 (by decide) ?_
                refine lv_isub hx hb dX7_putSigns_178 (n_top (y := nI ((4 * ((gl.length + 2) / 3)) - 1)) (pk_sub (by omega)) ?_)
                refine n_icmp_ne (tgt := 188) hx hb (by omega) (by omega) dX7_putSigns_179 (by decide) (fun c179 => ?_) (fun c179 => ?_)
                · have e9 : L1 ++ sgS gl (i + 1) = L1 ++ sgS gl i ++ [sgI gl i] := by rw [sgS, if_neg (fun z => z.elim c170 c179)]; simp only [List.append_assoc, List.append_nil]
                  have h : Wd D B s (mw dA h0 ad (apM M 11 10 n (L1 ++ sgS gl (i + 1))) ++ (F ++ E1)) H locs := by rw [e9]; exact h
                  exact jn   _ _ h _ (lv_sub hl [0, 1, 2, 3, 4, 5, 6, 7, 8] rfl)
                · refine lv_aload_n hx hb dX7_putSigns_182 rfl (lv_at hl 4 rfl) ?_
                  refine lv_bipush (v := nI 10) hx hb dX7_putSigns_183 (by decide) ?_
                  refine call_V (As := [.int (nI 10)]) (rest := []) (n := 1) C h (c7_put l D dA B Z hZ h0 ad (apM M 11 10 n (L1 ++ sgS gl i ++ [sgI gl i])) (F ++ E1) _ (n + (L1 ++ sgS gl i ++ [sgI gl i]).length) (10) rfl (by (try simp only [List.length_append, List.length_cons, List.length_nil]) <;> omega) (and255 (by decide))) (lw_V q2540 q2542 qs121 q138 q2543) (by decide +kernel) (ci := 5) rfl rfl mw_mem0 (by decide) (by decide) rfl hl rfl (Nat.le_of_ble_eq_true rfl) dX7_putSigns_185 (by omega) (fun _ H locs _ h => ?_)
                  rw [apM_app] at h
                  have h : Wd D B s (mw dA h0 ad (apM M 11 10 n (L1 ++ sgS gl i ++ [sgI gl i] ++ [10])) ++ (F ++ E1)) H locs := h
                  have e9 : L1 ++ sgS gl (i + 1) = L1 ++ sgS gl i ++ [sgI gl i] ++ [10] := by rw [sgS, if_pos (by first | exact Or.inl c170 | exact Or.inr c179)]; simp only [List.append_assoc]
                  have h : Wd D B s (mw dA h0 ad (apM M 11 10 n (L1 ++ sgS gl (i + 1))) ++ (F ++ E1)) H locs := by rw [e9]; exact h
                  exact jn   _ _ h _ (lv_sub hl [0, 1, 2, 3, 4, 5, 6, 7, 8] rfl)
            refine lv_aload_n hx hb dX7_putSigns_128 rfl (lv_at hl 4 rfl) ?_
            refine lv_bipush (v := nI 6) hx hb dX7_putSigns_129 (by decide) ?_
            refine lv_iload hx hb dX7_putSigns_131 (lv_at hl 3 rfl) ?_
            refine lv_imul hx hb dX7_putSigns_133 (n_top (y := nI (6 * i)) (pk_mul 6 i) ?_)
            refine lv_bipush (v := nI 8) hx hb dX7_putSigns_134 (by decide) ?_
            refine lv_iload_n hx hb dX7_putSigns_136 rfl (lv_at hl 5 rfl) ?_
            refine lv_imul hx hb dX7_putSigns_137 (n_top (y := nI (8 * gl.length)) (pk_mul 8 gl.length) ?_)
            refine n_icmp_ge (tgt := 158) hx hb (by omega) (by omega) dX7_putSigns_138 (by decide) (fun c138 => ?_) (fun c138 => ?_)
            · refine lv_bipush (v := nI 61) hx hb dX7_putSigns_158 (by decide) ?_
              refine n_top (y := nI (sgI gl i)) (congrArg nI (by unfold sgI; rw [if_neg (by omega)])) ?_
              exact js   _ _ h _ (lv_sub hl [0, 1, 2, 3, 4, 5, 6, 7, 8] rfl)
            · refine lv_iload hx hb dX7_putSigns_141 (lv_at hl 0 rfl) ?_
              refine lv_bipush (v := nI 10) hx hb dX7_putSigns_143 (by decide) ?_
              refine lv_iload hx hb dX7_putSigns_145 (lv_at hl 2 rfl) ?_
              refine lv_isub hx hb dX7_putSigns_147 (n_top (y := nI (10 - ((6 * i) % 8))) (pk_sub (by omega)) ?_)
              refine n_ishr hx hb dX7_putSigns_148 ?_
              refine lv_bipush (v := nI 63) hx hb dX7_putSigns_149 (by decide) ?_
              refine lv_iand hx hb dX7_putSigns_151 ?_
              refine n_top (y := nI ((gD gl ((6 * i) / 8) * 256 + gD gl ((6 * i) / 8 + 1)) / 2 ^ (10 - (6 * i) % 8) % 64)) (shr6 (by omega) (by omega)) ?_
              refine call_S (As := [.int (nI ((gD gl ((6 * i) / 8) * 256 + gD gl ((6 * i) / 8 + 1)) / 2 ^ (10 - (6 * i) % 8) % 64))]) (rest := [.ref h0]) (n := 1) C h (c7_signOf l D dA B Z hZ _ ((gD gl ((6 * i) / 8) * 256 + gD gl ((6 * i) / 8 + 1)) / 2 ^ (10 - (6 * i) % 8) % 64) (Nat.lt_of_lt_of_le (Nat.mod_lt _ (by decide)) (by decide))) (lw_S q2571 q2572 q138 q2573) (by decide +kernel) (by decide) (by decide) rfl hl rfl (Nat.le_of_ble_eq_true rfl) dX7_putSigns_152 (by omega) (fun _ H locs _ h => ?_)
              refine lv_goto (tgt := 160) hx hb dX7_putSigns_155 (by decide) ?_
              refine n_top (y := nI (sgI gl i)) (congrArg nI (by unfold sgI; rw [if_pos (by omega)])) ?_
              exact js   _ _ h _ (lv_sub hl [0, 1, 2, 3, 4, 5, 6, 7, 8] rfl)
          refine lv_iload hx hb dX7_putSigns_107 (lv_at hl 0 rfl) ?_
          refine lv_iconst (v := nI 1) hx hb dX7_putSigns_109 (by decide) ?_
          refine lv_iadd hx hb dX7_putSigns_110 (n_top (y := nI (((6 * i) / 8) + 1)) (nI_add ((6 * i) / 8) 1) ?_)
          refine lv_iload_n hx hb dX7_putSigns_111 rfl (lv_at hl 4 rfl) ?_
          refine n_icmp_ge (tgt := 124) hx hb (by omega) (by omega) dX7_putSigns_112 (by decide) (fun c112 => ?_) (fun c112 => ?_)
          · refine lv_iconst (v := nI 0) hx hb dX7_putSigns_124 (by decide) ?_
            refine n_top (y := nI (gD gl ((6 * i) / 8 + 1))) (congrArg nI (by rw [gD_out c112])) ?_
            exact jb   _ _ h _ (lv_sub hl [0, 1, 2, 3, 4, 5, 6, 7] rfl)
          · refine lv_aload_n hx hb dX7_putSigns_115 rfl (lv_at hl 6 rfl) ?_
            refine lv_iload hx hb dX7_putSigns_116 (lv_at hl 0 rfl) ?_
            refine lv_iconst (v := nI 1) hx hb dX7_putSigns_118 (by decide) ?_
            refine lv_iadd hx hb dX7_putSigns_119 (n_top (y := nI (((6 * i) / 8) + 1)) (nI_add ((6 * i) / 8) 1) ?_)
            refine n_iald C h (v := (mG M 9) (((6 * i) / 8) + 1)) (mw_memG (k := 9) (by decide)) (show ((6 * i) / 8) + 1 < 8000 by omega) (by decide) rfl dX7_putSigns_120 ?_
            refine n_top (y := nI (gD gl ((6 * i) / 8 + 1))) (congrArg nI (hG _ (by omega))) ?_
            refine lv_goto (tgt := 125) hx hb dX7_putSigns_121 (by decide) ?_
            exact jb   _ _ h _ (lv_sub hl [0, 1, 2, 3, 4, 5, 6, 7] rfl)
        refine lv_iload hx hb dX7_putSigns_89 (lv_at hl 0 rfl) ?_
        refine lv_iload_n hx hb dX7_putSigns_91 rfl (lv_at hl 4 rfl) ?_
        refine n_icmp_ge (tgt := 106) hx hb (by omega) (by omega) dX7_putSigns_92 (by decide) (fun c92 => ?_) (fun c92 => ?_)
        · refine lv_iconst (v := nI 0) hx hb dX7_putSigns_106 (by decide) ?_
          refine n_top (y := nI (gD gl ((6 * i) / 8) * 256)) (congrArg nI (by rw [gD_out c92])) ?_
          exact ja   _ _ h _ (lv_sub hl [0, 1, 2, 3, 4, 5, 6, 7] rfl)
        · refine lv_aload_n hx hb dX7_putSigns_95 rfl (lv_at hl 6 rfl) ?_
          refine lv_iload hx hb dX7_putSigns_96 (lv_at hl 0 rfl) ?_
          refine n_iald C h (v := (mG M 9) ((6 * i) / 8)) (mw_memG (k := 9) (by decide)) (show (6 * i) / 8 < 8000 by omega) (by decide) rfl dX7_putSigns_98 ?_
          refine n_top (y := nI (gD gl ((6 * i) / 8))) (congrArg nI (hG _ (by omega))) ?_
          refine lv_sipush (v := nI 256) hx hb dX7_putSigns_99 (by decide) ?_
          refine lv_imul hx hb dX7_putSigns_102 (n_top (y := nI ((gD gl ((6 * i) / 8)) * 256)) (pk_mul (gD gl ((6 * i) / 8)) 256) ?_)
          refine lv_goto (tgt := 107) hx hb dX7_putSigns_103 (by decide) ?_
          exact ja   _ _ h _ (lv_sub hl [0, 1, 2, 3, 4, 5, 6, 7] rfl)
  exact loop _ 0 (by omega) (Nat.lt_succ_self _) _ _ h _ (lv_sub hl [0, 3, 4, 5, 2, 1] rfl)
set_option maxHeartbeats 400000 in
set_option maxRecDepth 100000 in
theorem c7_armor (l : Launch) (D : va_G) (dA : Nat → ClassId) (B : Nat) (Z : State → Prop) (hZ : Stab B Z) (h0 : Nat) (ad : Nat → Nat) (M : MS) (F : va_W) (tp dc ou : List Nat) (L : List PK) (x : Int32) (hzs : ZS dA B Z) (hS : MSt dA F ad M tp dc ou L) :
    Ct (S := MS × va_W) l D dA B Z yX7_armor cX7_armor 3 (some .int) 10 14 2400 [.ref h0, .int x] (mw dA h0 ad M ++ F) (fun u => MSt dA (F ++ u.2) ad u.1 tp dc ((armS ou x).2.2) L ∧ mI u.1 0 = nI (armS ou x).1) (fun _ => some (.int (nI (armS ou x).2.1))) (fun u => mw dA h0 ad u.1 ++ (F ++ u.2)) := by
  refine Ct.mk2 (by decide) (Nat.le_of_ble_eq_true rfl) hZ ?_
  intro p e R s m args below meth c ls Q C hr hlocks hin hQ hl h
  have C0 := C
  obtain ⟨hx, hb, hml, hown, hts, -⟩ := C0
  have hl : lv_has ls 3 [(0, .ref h0), (1, .int x)] := hl
  have hou := hS.2.2.1.2.2.2
  refine lv_aload_n hx hb dX7_armor_0 rfl (lv_at hl 0 rfl) ?_
  refine lv_iload_n hx hb dX7_armor_1 rfl (lv_at hl 1 rfl) ?_
  refine lv_if_lt (tgt := 10) hx hb dX7_armor_2 (by decide) (fun c2 => ?_) (fun c2 => ?_)
  · have hU := armS_f (ou := ou) (Or.inl c2)
    refine lv_iconst (v := nI 1) hx hb dX7_armor_10 (by decide) ?_
    refine lv_goto (tgt := 29) hx hb dX7_armor_11 (by decide) ?_
    refine m_pi C h 0 (v := nI 1) (by decide) rfl rfl rfl q1870 rfl rfl dX7_armor_29 (fun H locs h => ?_)
    refine lv_aload_n hx hb dX7_armor_32 rfl (lv_at hl 0 rfl) ?_
    refine m_gi C h 0 (by decide) rfl rfl q1870 (v := nI 1) rfl dX7_armor_33 ?_
    refine n_if_le (tgt := 41) hx hb (by omega) dX7_armor_36 (by decide) (fun c36 => by exfalso; omega) (fun c36 => ?_)
    refine lv_iconst (v := nI 0) hx hb dX7_armor_39 (by decide) ?_
    subst hQ
    have h : Wd D B s (mw dA h0 ad (sI M 0 (nI 1)) ++ (F ++ [])) H locs := by rw [List.append_nil]; exact h
    exact ret_i C hr hlocks h (sI M 0 (nI 1), []) (⟨by rw [hU, List.append_nil]; exact hS, by rw [hU]; rfl⟩) (by rw [hU]) rfl (by omega) (by omega) dX7_armor_40
  · refine lv_iload_n hx hb dX7_armor_5 rfl (lv_at hl 1 rfl) ?_
    refine lv_iconst (v := nI 2) hx hb dX7_armor_6 (by decide) ?_
    refine lv_icmp_le (tgt := 14) hx hb dX7_armor_7 (by decide) (fun c7 => ?_) (fun c7 => ?_)
    · obtain ⟨k, hk1, hnk, hkt⟩ := i_le (by omega) c2 c7
      have hU := armS_k (ou := ou) c2 (Int32.not_lt.mpr c7) hkt
      have hl : lv_has ls 3 [(0, .ref h0), (1, .int (nI k))] := by rw [hnk] at hl; exact hl
      refine lv_aload_n hx hb dX7_armor_14 rfl (lv_at hl 0 rfl) ?_
      refine m_gi C h 10 (by decide) rfl rfl q1880 (v := nI ou.length) hS.2.2.1.1 dX7_armor_15 ?_
      refine lv_sipush (v := nI 8000) hx hb dX7_armor_18 (by decide) ?_
      refine n_icmp_le (tgt := 28) hx hb (by omega) (by omega) dX7_armor_21 (by decide) (fun c21 => ?_) (fun c21 => ?_)
      · rw [if_neg (by omega)] at hU
        refine lv_iconst (v := nI 0) hx hb dX7_armor_28 (by decide) ?_
        refine m_pi C h 0 (v := nI 0) (by decide) rfl rfl rfl q1870 rfl rfl dX7_armor_29 (fun H locs h => ?_)
        refine lv_aload_n hx hb dX7_armor_32 rfl (lv_at hl 0 rfl) ?_
        refine m_gi C h 0 (by decide) rfl rfl q1870 (v := nI 0) rfl dX7_armor_33 ?_
        refine n_if_le (tgt := 41) hx hb (by omega) dX7_armor_36 (by decide) (fun c36 => ?_) (fun c36 => by exfalso; omega)
        refine lv_aload_n hx hb dX7_armor_41 rfl (lv_at hl 0 rfl) ?_
        refine lv_iconst (v := nI 0) hx hb dX7_armor_42 (by decide) ?_
        refine call_V (As := [.int (nI 0)]) (rest := []) (n := 1) C h (c7_takeOut l D dA B Z hZ h0 ad (sI M 0 (nI 0)) F ou.length 0 hS.2.2.1.1 (Nat.zero_le _) (by omega) (by omega)) (lw_V q2563 q2565 qs126 q138 q2566) (by decide +kernel) (ci := 5) rfl rfl mw_mem0 (by decide) (by decide) rfl hl rfl (Nat.le_of_ble_eq_true rfl) dX7_armor_43 (by omega) (fun _ H locs _ h => ?_)
        have hsl : sl (mG (sI M 0 (nI 0)) 11) 0 (ou.length - 0) = ou := (sl_congr (fun j hj => hS.2.2.1.2.1 _ (by omega))).trans (sl_gD ou)
        rw [hsl] at h
        have h : Wd D B s (mw dA h0 ad (sI (sG (sI M 0 (nI 0)) 9 (appG (mG (sI M 0 (nI 0)) 9) 0 ou)) 10 (nI 0)) ++ F) H locs := h
        refine n_top (y := nI ou.length) rfl ?_
        refine lv_istore_n (lv' := [(2, .int (nI ou.length)), (0, .ref h0), (1, .int (nI k))]) hx hb dX7_armor_46 rfl hl (by decide) rfl (fun ls hl => ?_)
        refine lv_aload_n hx hb dX7_armor_47 rfl (lv_at hl 1 rfl) ?_
        refine lv_iload_n hx hb dX7_armor_48 rfl (lv_at hl 0 rfl) ?_
        refine lv_iload_n hx hb dX7_armor_49 rfl (lv_at hl 2 rfl) ?_
        refine call_V (As := [.int (nI ou.length), .int (nI k)]) (rest := []) (n := 2) C h (c7_putSigns l D dA B Z hZ h0 ad (sI (sG (sI M 0 (nI 0)) 9 (appG (mG (sI M 0 (nI 0)) 9) 0 ou)) 10 (nI 0)) F ou k 0 hzs rfl (by omega) app_get0 hS.2.2.1.2.2.1 (by omega) (by omega)) (lw_V q2567 q2569 qs127 q138 q2570) (by decide +kernel) (ci := 5) rfl rfl mw_mem0 (by decide) (by decide) rfl hl rfl (Nat.le_of_ble_eq_true rfl) dX7_armor_50 (by omega) (fun E1 H locs _ h => ?_)
        have h : Wd D B s (mw dA h0 ad (apM (sI (sG (sI M 0 (nI 0)) 9 (appG (mG (sI M 0 (nI 0)) 9) 0 ou)) 10 (nI 0)) 11 10 0 (armL k ou)) ++ (F ++ E1)) H locs := h
        refine lv_aload_n hx hb dX7_armor_53 rfl (lv_at hl 1 rfl) ?_
        refine m_gi C h 10 (by decide) rfl rfl q1880 (v := nI (0 + (armL k ou).length)) rfl dX7_armor_54 ?_
        subst hQ
        have hal := armL_len k ou
        exact ret_i C hr hlocks h ((apM (sI (sG (sI M 0 (nI 0)) 9 (appG (mG (sI M 0 (nI 0)) 9) 0 ou)) 10 (nI 0)) 11 10 0 (armL k ou)), E1) (⟨by rw [hU]; exact MSt.outp (hS.up (fun x hx => List.mem_append_left _ hx)) (nI 0) _ (armL_byt k ou) (by omega), by rw [hU]; rfl⟩) (by rw [hU, Nat.zero_add]) rfl (by omega) (by omega) dX7_armor_57
      · rw [if_pos c21] at hU
        refine lv_iconst (v := nI 2) hx hb dX7_armor_24 (by decide) ?_
        refine lv_goto (tgt := 29) hx hb dX7_armor_25 (by decide) ?_
        refine m_pi C h 0 (v := nI 2) (by decide) rfl rfl rfl q1870 rfl rfl dX7_armor_29 (fun H locs h => ?_)
        refine lv_aload_n hx hb dX7_armor_32 rfl (lv_at hl 0 rfl) ?_
        refine m_gi C h 0 (by decide) rfl rfl q1870 (v := nI 2) rfl dX7_armor_33 ?_
        refine n_if_le (tgt := 41) hx hb (by omega) dX7_armor_36 (by decide) (fun c36 => by exfalso; omega) (fun c36 => ?_)
        refine lv_iconst (v := nI 0) hx hb dX7_armor_39 (by decide) ?_
        subst hQ
        have h : Wd D B s (mw dA h0 ad (sI M 0 (nI 2)) ++ (F ++ [])) H locs := by rw [List.append_nil]; exact h
        exact ret_i C hr hlocks h (sI M 0 (nI 2), []) (⟨by rw [hU, List.append_nil]; exact hS, by rw [hU]; rfl⟩) (by rw [hU]) rfl (by omega) (by omega) dX7_armor_40
    · have hU := armS_f (ou := ou) (Or.inr (Int32.not_le.mp c7))
      refine lv_iconst (v := nI 1) hx hb dX7_armor_10 (by decide) ?_
      refine lv_goto (tgt := 29) hx hb dX7_armor_11 (by decide) ?_
      refine m_pi C h 0 (v := nI 1) (by decide) rfl rfl rfl q1870 rfl rfl dX7_armor_29 (fun H locs h => ?_)
      refine lv_aload_n hx hb dX7_armor_32 rfl (lv_at hl 0 rfl) ?_
      refine m_gi C h 0 (by decide) rfl rfl q1870 (v := nI 1) rfl dX7_armor_33 ?_
      refine n_if_le (tgt := 41) hx hb (by omega) dX7_armor_36 (by decide) (fun c36 => by exfalso; omega) (fun c36 => ?_)
      refine lv_iconst (v := nI 0) hx hb dX7_armor_39 (by decide) ?_
      subst hQ
      have h : Wd D B s (mw dA h0 ad (sI M 0 (nI 1)) ++ (F ++ [])) H locs := by rw [List.append_nil]; exact h
      exact ret_i C hr hlocks h (sI M 0 (nI 1), []) (⟨by rw [hU, List.append_nil]; exact hS, by rw [hU]; rfl⟩) (by rw [hU]) rfl (by omega) (by omega) dX7_armor_40
set_option maxHeartbeats 400000 in
set_option maxRecDepth 100000 in
theorem c7_hash (l : Launch) (D : va_G) (dA : Nat → ClassId) (B : Nat) (Z : State → Prop) (hZ : Stab B Z) (h0 : Nat) (ad : Nat → Nat) (M : MS) (F : va_W) (tp dc ou : List Nat) (L : List PK) (x y : Int32) (hzR : ∀ U : State, Z U → ∃ t, va_Z "SignetRingModel" "ROUNDS" "[I" (.ref t) (bA B) U U.heap ∧ va_T .int t 64 (fun j => .int (K2 j)) (bA B) U U.heap) (hS : MSt dA F ad M tp dc ou L) :
    Ct (S := MS) l D dA B Z yX7_hash cX7_hash 4 (some .int) 6 0 0 [.ref h0, .int x, .int y] (mw dA h0 ad M ++ F) (fun u => MSt dA F ad u tp dc ou L ∧ mI u 0 = nI (hshS dc x y).1) (fun _ => some (.int (nI (hshS dc x y).2))) (fun u => mw dA h0 ad u ++ F) := by
  refine Ct.mk2 (by decide) (Nat.le_of_ble_eq_true rfl) hZ ?_
  intro p e R s m args below meth c ls Q C hr hlocks hin hQ hl h
  have C0 := C
  obtain ⟨hx, hb, hml, hown, hts, -⟩ := C0
  have hl : lv_has ls 4 [(0, .ref h0), (1, .int x), (2, .int y)] := hl
  have hdc := hS.2.1.2.2.2
  refine lv_aload_n hx hb dX7_hash_0 rfl (lv_at hl 0 rfl) ?_
  refine lv_iload_n hx hb dX7_hash_1 rfl (lv_at hl 1 rfl) ?_
  refine lv_iconst (v := nI 1) hx hb dX7_hash_2 (by decide) ?_
  refine lv_icmp_eq (tgt := 15) hx hb dX7_hash_3 (by decide) (fun c3 => ?_) (fun c3 => ?_)
  · have hx0 : hshS dc x y = if y < 0 ∨ ¬ y < nI 20 then (2, 0) else (0, gD (hash 2 dc) y.toInt.toNat) := by
      unfold hshS
      rw [if_neg (fun q => q.1 c3), if_pos c3, if_pos c3]
    have hl : lv_has ls 4 [(0, .ref h0), (1, .int (nI 1)), (2, .int y)] := by rw [c3] at hl; exact hl
    refine lv_iload_n hx hb dX7_hash_15 rfl (lv_at hl 2 rfl) ?_
    refine lv_if_lt (tgt := 35) hx hb dX7_hash_16 (by decide) (fun c16 => ?_) (fun c16 => ?_)
    · have hU : hshS dc x y = (2, 0) := by rw [hx0, if_pos (Or.inl c16)]
      refine lv_iconst (v := nI 2) hx hb dX7_hash_35 (by decide) ?_
      refine lv_goto (tgt := 40) hx hb dX7_hash_36 (by decide) ?_
      refine m_pi C h 0 (v := nI 2) (by decide) rfl rfl rfl q1870 rfl rfl dX7_hash_40 (fun H locs h => ?_)
      refine lv_aload_n hx hb dX7_hash_43 rfl (lv_at hl 0 rfl) ?_
      refine m_gi C h 0 (by decide) rfl rfl q1870 (v := nI 2) rfl dX7_hash_44 ?_
      refine n_if_le (tgt := 52) hx hb (by omega) dX7_hash_47 (by decide) (fun c47 => by exfalso; omega) (fun c47 => ?_)
      refine lv_iconst (v := nI 0) hx hb dX7_hash_50 (by decide) ?_
      subst hQ
      exact ret_i C hr hlocks h (sI M 0 (nI 2)) (⟨hS, by rw [hU]; rfl⟩) (by rw [hU]) rfl (by omega) (by omega) dX7_hash_51
    · refine lv_iload_n hx hb dX7_hash_19 rfl (lv_at hl 2 rfl) ?_
      refine lv_iload_n hx hb dX7_hash_20 rfl (lv_at hl 1 rfl) ?_
      refine lv_iconst (v := nI 1) hx hb dX7_hash_21 (by decide) ?_
      refine n_icmp_ne (tgt := 30) hx hb (by omega) (by omega) dX7_hash_22 (by decide) (fun c22 => by exfalso; omega) (fun c22 => ?_)
      refine lv_bipush (v := nI 20) hx hb dX7_hash_25 (by decide) ?_
      refine lv_goto (tgt := 32) hx hb dX7_hash_27 (by decide) ?_
      refine lv_icmp_lt (tgt := 39) hx hb dX7_hash_32 (by decide) (fun c32 => ?_) (fun c32 => ?_)
      · obtain ⟨k, hk1, hyk, hkt⟩ := i_lt (by omega) c16 c32
        have hU : hshS dc x y = (0, gD (hash 2 dc) k) := by rw [hx0, if_neg (fun q => q.elim c16 (fun z => z c32)), hkt]
        have hl : lv_has ls 4 [(0, .ref h0), (1, .int (nI 1)), (2, .int (nI k))] := by rw [hyk] at hl; exact hl
        refine lv_iconst (v := nI 0) hx hb dX7_hash_39 (by decide) ?_
        refine m_pi C h 0 (v := nI 0) (by decide) rfl rfl rfl q1870 rfl rfl dX7_hash_40 (fun H locs h => ?_)
        refine lv_aload_n hx hb dX7_hash_43 rfl (lv_at hl 0 rfl) ?_
        refine m_gi C h 0 (by decide) rfl rfl q1870 (v := nI 0) rfl dX7_hash_44 ?_
        refine n_if_le (tgt := 52) hx hb (by omega) dX7_hash_47 (by decide) (fun c47 => ?_) (fun c47 => by exfalso; omega)
        refine lv_aload_n hx hb dX7_hash_52 rfl (lv_at hl 0 rfl) ?_
        refine lv_iconst (v := nI 0) hx hb dX7_hash_53 (by decide) ?_
        refine m_pi C h 20 (v := nI 0) (by decide) rfl rfl rfl q1890 rfl rfl dX7_hash_54 (fun H locs h => ?_)
        refine lv_aload_n hx hb dX7_hash_57 rfl (lv_at hl 0 rfl) ?_
        refine lv_aload_n hx hb dX7_hash_58 rfl (lv_at hl 0 rfl) ?_
        refine m_gc C h 4 (by decide) rfl rfl q1874 dX7_hash_59 ?_
        refine lv_iconst (v := nI 0) hx hb dX7_hash_62 (by decide) ?_
        refine lv_aload_n hx hb dX7_hash_63 rfl (lv_at hl 0 rfl) ?_
        refine m_gi C h 3 (by decide) rfl rfl q1873 (v := nI dc.length) hS.2.1.1 dX7_hash_64 ?_
        refine call_V (As := [.ref (ad 4), .int (nI 0), .int (nI dc.length)]) (rest := []) (n := 3) C h (c7_sayRow l D dA B Z hZ h0 ad (sI (sI M 0 (nI 0)) 20 (nI 0)) F (ad 4) 4096 (mG M 4) 0 dc.length 0 rfl (fun G1 v => mw_memG (k := 4) (by decide)) (Nat.zero_le _) (by omega) (by decide) (by omega) (fun j hj => by rw [hS.2.1.2.1 j hj]; exact byt_gD hS.2.1.2.2.1 j)) (lw_V q2256 q2258 qs69 q138 q2259) (by decide +kernel) (ci := 5) rfl rfl mw_mem0 (by decide) (by decide) rfl hl rfl (Nat.le_of_ble_eq_true rfl) dX7_hash_67 (by omega) (fun _ H locs _ h => ?_)
        have hsl : sl (mG M 4) 0 (dc.length - 0) = dc := (sl_congr (fun j hj => hS.2.1.2.1 _ (by omega))).trans (sl_gD dc)
        rw [hsl] at h
        have h : Wd D B s (mw dA h0 ad (apM (sI (sI M 0 (nI 0)) 20 (nI 0)) 21 20 0 dc) ++ F) H locs := h
        refine lv_aload_n hx hb dX7_hash_70 rfl (lv_at hl 0 rfl) ?_
        refine lv_iload_n hx hb dX7_hash_71 rfl (lv_at hl 1 rfl) ?_
        refine lv_iconst (v := nI 1) hx hb dX7_hash_72 (by decide) ?_
        refine n_icmp_ne (tgt := 80) hx hb (by omega) (by omega) dX7_hash_73 (by decide) (fun c73 => by exfalso; omega) (fun c73 => ?_)
        refine lv_iconst (v := nI 2) hx hb dX7_hash_76 (by decide) ?_
        refine lv_goto (tgt := 82) hx hb dX7_hash_77 (by decide) ?_
        have hb1 : ∀ j, mG (apM (sI (sI M 0 (nI 0)) 20 (nI 0)) 21 20 0 dc) 21 j < 256 := fun j => (appG_byte hS.2.2.2.2.2.1.1 hS.2.1.2.2.1 j : appG (mG M 21) 0 dc j < 256)
        have hmsg : sl (mG (apM (sI (sI M 0 (nI 0)) 20 (nI 0)) 21 20 0 dc) 21) 0 (0 + dc.length) = dc := sl_appG (mG M 21) 0 dc
        refine call_V (As := [.int (nI 2)]) (rest := []) (n := 1) C h (c7_hashOf l D dA B Z hZ h0 ad (apM (sI (sI M 0 (nI 0)) 20 (nI 0)) 21 20 0 dc) F (0 + dc.length) 2 hzR rfl (by omega) hb1 (by decide)) (lw_V q2260 q2262 qs70 q138 q2263) (by decide +kernel) (ci := 5) rfl rfl mw_mem0 (by decide) (by decide) rfl hl rfl (Nat.le_of_ble_eq_true rfl) dX7_hash_82 (by omega) (fun uh H locs huh h => ?_)
        obtain ⟨huh1, huh2⟩ := huh
        rw [hmsg] at huh2
        have hhl := hash_len 2 dc
        have h : Wd D B s (mw dA h0 ad (hM (apM (sI (sI M 0 (nI 0)) 20 (nI 0)) 21 20 0 dc) uh) ++ F) H locs := h
        refine n_top (y := nI 20) rfl ?_
        refine lv_istore_n (lv' := [(3, .int (nI 20)), (0, .ref h0), (1, .int (nI 1)), (2, .int (nI k))]) hx hb dX7_hash_85 rfl hl (by decide) rfl (fun ls hl => ?_)
        refine lv_aload_n hx hb dX7_hash_86 rfl (lv_at hl 1 rfl) ?_
        refine m_gc C h 22 (by decide) rfl rfl q1892 dX7_hash_87 ?_
        refine lv_iload_n hx hb dX7_hash_90 rfl (lv_at hl 3 rfl) ?_
        refine n_iald C h (v := (appG (mG M 22) 0 (hash 2 dc)) k) (mw_memG (k := 22) (by decide)) (show k < 32 by omega) (by decide) (congrFun huh2 _) dX7_hash_91 ?_
        refine n_top (y := nI (gD (hash 2 dc) k)) (congrArg nI (app_get0 k (by rw [hhl]; exact hk1))) ?_
        subst hQ
        have hI9 : MI (apM (sI (sI M 0 (nI 0)) 20 (nI 0)) 21 20 0 dc) := ⟨hb1, hS.2.2.2.2.2.1.2⟩
        exact ret_i C hr hlocks h (hM (apM (sI (sI M 0 (nI 0)) 20 (nI 0)) 21 20 0 dc) uh) (⟨MSt.kp (M := (sI M 0 (nI 0))) hS (Kp.trans (((Kp.rfl' (sI M 0 (nI 0))).sI (k := 20) (by decide)).trans (apM_kp _ 0 dc)) (hM_kp _ uh)) (hM_kp2 _ uh hI9 huh1) (fun x hx => hx), by rw [hU]; rfl⟩) (by rw [hU]) rfl (by omega) (by omega) dX7_hash_92
      · have hU : hshS dc x y = (2, 0) := by rw [hx0, if_pos (Or.inr c32)]
        refine lv_iconst (v := nI 2) hx hb dX7_hash_35 (by decide) ?_
        refine lv_goto (tgt := 40) hx hb dX7_hash_36 (by decide) ?_
        refine m_pi C h 0 (v := nI 2) (by decide) rfl rfl rfl q1870 rfl rfl dX7_hash_40 (fun H locs h => ?_)
        refine lv_aload_n hx hb dX7_hash_43 rfl (lv_at hl 0 rfl) ?_
        refine m_gi C h 0 (by decide) rfl rfl q1870 (v := nI 2) rfl dX7_hash_44 ?_
        refine n_if_le (tgt := 52) hx hb (by omega) dX7_hash_47 (by decide) (fun c47 => by exfalso; omega) (fun c47 => ?_)
        refine lv_iconst (v := nI 0) hx hb dX7_hash_50 (by decide) ?_
        subst hQ
        exact ret_i C hr hlocks h (sI M 0 (nI 2)) (⟨hS, by rw [hU]; rfl⟩) (by rw [hU]) rfl (by omega) (by omega) dX7_hash_51
  · refine lv_iload_n hx hb dX7_hash_6 rfl (lv_at hl 1 rfl) ?_
    refine lv_iconst (v := nI 2) hx hb dX7_hash_7 (by decide) ?_
    refine lv_icmp_eq (tgt := 15) hx hb dX7_hash_8 (by decide) (fun c8 => ?_) (fun c8 => ?_)
    · have hx0 : hshS dc x y = if y < 0 ∨ ¬ y < nI 32 then (2, 0) else (0, gD (hash 8 dc) y.toInt.toNat) := by
        unfold hshS
        rw [if_neg (fun q => q.2 c8), if_neg c3, if_neg c3]
      have hl : lv_has ls 4 [(0, .ref h0), (1, .int (nI 2)), (2, .int y)] := by rw [c8] at hl; exact hl
      refine lv_iload_n hx hb dX7_hash_15 rfl (lv_at hl 2 rfl) ?_
      refine lv_if_lt (tgt := 35) hx hb dX7_hash_16 (by decide) (fun c16 => ?_) (fun c16 => ?_)
      · have hU : hshS dc x y = (2, 0) := by rw [hx0, if_pos (Or.inl c16)]
        refine lv_iconst (v := nI 2) hx hb dX7_hash_35 (by decide) ?_
        refine lv_goto (tgt := 40) hx hb dX7_hash_36 (by decide) ?_
        refine m_pi C h 0 (v := nI 2) (by decide) rfl rfl rfl q1870 rfl rfl dX7_hash_40 (fun H locs h => ?_)
        refine lv_aload_n hx hb dX7_hash_43 rfl (lv_at hl 0 rfl) ?_
        refine m_gi C h 0 (by decide) rfl rfl q1870 (v := nI 2) rfl dX7_hash_44 ?_
        refine n_if_le (tgt := 52) hx hb (by omega) dX7_hash_47 (by decide) (fun c47 => by exfalso; omega) (fun c47 => ?_)
        refine lv_iconst (v := nI 0) hx hb dX7_hash_50 (by decide) ?_
        subst hQ
        exact ret_i C hr hlocks h (sI M 0 (nI 2)) (⟨hS, by rw [hU]; rfl⟩) (by rw [hU]) rfl (by omega) (by omega) dX7_hash_51
      · refine lv_iload_n hx hb dX7_hash_19 rfl (lv_at hl 2 rfl) ?_
        refine lv_iload_n hx hb dX7_hash_20 rfl (lv_at hl 1 rfl) ?_
        refine lv_iconst (v := nI 1) hx hb dX7_hash_21 (by decide) ?_
        refine n_icmp_ne (tgt := 30) hx hb (by omega) (by omega) dX7_hash_22 (by decide) (fun c22 => ?_) (fun c22 => by exfalso; omega)
        refine lv_bipush (v := nI 32) hx hb dX7_hash_30 (by decide) ?_
        refine lv_icmp_lt (tgt := 39) hx hb dX7_hash_32 (by decide) (fun c32 => ?_) (fun c32 => ?_)
        · obtain ⟨k, hk1, hyk, hkt⟩ := i_lt (by omega) c16 c32
          have hU : hshS dc x y = (0, gD (hash 8 dc) k) := by rw [hx0, if_neg (fun q => q.elim c16 (fun z => z c32)), hkt]
          have hl : lv_has ls 4 [(0, .ref h0), (1, .int (nI 2)), (2, .int (nI k))] := by rw [hyk] at hl; exact hl
          refine lv_iconst (v := nI 0) hx hb dX7_hash_39 (by decide) ?_
          refine m_pi C h 0 (v := nI 0) (by decide) rfl rfl rfl q1870 rfl rfl dX7_hash_40 (fun H locs h => ?_)
          refine lv_aload_n hx hb dX7_hash_43 rfl (lv_at hl 0 rfl) ?_
          refine m_gi C h 0 (by decide) rfl rfl q1870 (v := nI 0) rfl dX7_hash_44 ?_
          refine n_if_le (tgt := 52) hx hb (by omega) dX7_hash_47 (by decide) (fun c47 => ?_) (fun c47 => by exfalso; omega)
          refine lv_aload_n hx hb dX7_hash_52 rfl (lv_at hl 0 rfl) ?_
          refine lv_iconst (v := nI 0) hx hb dX7_hash_53 (by decide) ?_
          refine m_pi C h 20 (v := nI 0) (by decide) rfl rfl rfl q1890 rfl rfl dX7_hash_54 (fun H locs h => ?_)
          refine lv_aload_n hx hb dX7_hash_57 rfl (lv_at hl 0 rfl) ?_
          refine lv_aload_n hx hb dX7_hash_58 rfl (lv_at hl 0 rfl) ?_
          refine m_gc C h 4 (by decide) rfl rfl q1874 dX7_hash_59 ?_
          refine lv_iconst (v := nI 0) hx hb dX7_hash_62 (by decide) ?_
          refine lv_aload_n hx hb dX7_hash_63 rfl (lv_at hl 0 rfl) ?_
          refine m_gi C h 3 (by decide) rfl rfl q1873 (v := nI dc.length) hS.2.1.1 dX7_hash_64 ?_
          refine call_V (As := [.ref (ad 4), .int (nI 0), .int (nI dc.length)]) (rest := []) (n := 3) C h (c7_sayRow l D dA B Z hZ h0 ad (sI (sI M 0 (nI 0)) 20 (nI 0)) F (ad 4) 4096 (mG M 4) 0 dc.length 0 rfl (fun G1 v => mw_memG (k := 4) (by decide)) (Nat.zero_le _) (by omega) (by decide) (by omega) (fun j hj => by rw [hS.2.1.2.1 j hj]; exact byt_gD hS.2.1.2.2.1 j)) (lw_V q2256 q2258 qs69 q138 q2259) (by decide +kernel) (ci := 5) rfl rfl mw_mem0 (by decide) (by decide) rfl hl rfl (Nat.le_of_ble_eq_true rfl) dX7_hash_67 (by omega) (fun _ H locs _ h => ?_)
          have hsl : sl (mG M 4) 0 (dc.length - 0) = dc := (sl_congr (fun j hj => hS.2.1.2.1 _ (by omega))).trans (sl_gD dc)
          rw [hsl] at h
          have h : Wd D B s (mw dA h0 ad (apM (sI (sI M 0 (nI 0)) 20 (nI 0)) 21 20 0 dc) ++ F) H locs := h
          refine lv_aload_n hx hb dX7_hash_70 rfl (lv_at hl 0 rfl) ?_
          refine lv_iload_n hx hb dX7_hash_71 rfl (lv_at hl 1 rfl) ?_
          refine lv_iconst (v := nI 1) hx hb dX7_hash_72 (by decide) ?_
          refine n_icmp_ne (tgt := 80) hx hb (by omega) (by omega) dX7_hash_73 (by decide) (fun c73 => ?_) (fun c73 => by exfalso; omega)
          refine lv_bipush (v := nI 8) hx hb dX7_hash_80 (by decide) ?_
          have hb1 : ∀ j, mG (apM (sI (sI M 0 (nI 0)) 20 (nI 0)) 21 20 0 dc) 21 j < 256 := fun j => (appG_byte hS.2.2.2.2.2.1.1 hS.2.1.2.2.1 j : appG (mG M 21) 0 dc j < 256)
          have hmsg : sl (mG (apM (sI (sI M 0 (nI 0)) 20 (nI 0)) 21 20 0 dc) 21) 0 (0 + dc.length) = dc := sl_appG (mG M 21) 0 dc
          refine call_V (As := [.int (nI 8)]) (rest := []) (n := 1) C h (c7_hashOf l D dA B Z hZ h0 ad (apM (sI (sI M 0 (nI 0)) 20 (nI 0)) 21 20 0 dc) F (0 + dc.length) 8 hzR rfl (by omega) hb1 (by decide)) (lw_V q2260 q2262 qs70 q138 q2263) (by decide +kernel) (ci := 5) rfl rfl mw_mem0 (by decide) (by decide) rfl hl rfl (Nat.le_of_ble_eq_true rfl) dX7_hash_82 (by omega) (fun uh H locs huh h => ?_)
          obtain ⟨huh1, huh2⟩ := huh
          rw [hmsg] at huh2
          have hhl := hash_len 8 dc
          have h : Wd D B s (mw dA h0 ad (hM (apM (sI (sI M 0 (nI 0)) 20 (nI 0)) 21 20 0 dc) uh) ++ F) H locs := h
          refine n_top (y := nI 32) rfl ?_
          refine lv_istore_n (lv' := [(3, .int (nI 32)), (0, .ref h0), (1, .int (nI 2)), (2, .int (nI k))]) hx hb dX7_hash_85 rfl hl (by decide) rfl (fun ls hl => ?_)
          refine lv_aload_n hx hb dX7_hash_86 rfl (lv_at hl 1 rfl) ?_
          refine m_gc C h 22 (by decide) rfl rfl q1892 dX7_hash_87 ?_
          refine lv_iload_n hx hb dX7_hash_90 rfl (lv_at hl 3 rfl) ?_
          refine n_iald C h (v := (appG (mG M 22) 0 (hash 8 dc)) k) (mw_memG (k := 22) (by decide)) (show k < 32 by omega) (by decide) (congrFun huh2 _) dX7_hash_91 ?_
          refine n_top (y := nI (gD (hash 8 dc) k)) (congrArg nI (app_get0 k (by rw [hhl]; exact hk1))) ?_
          subst hQ
          have hI9 : MI (apM (sI (sI M 0 (nI 0)) 20 (nI 0)) 21 20 0 dc) := ⟨hb1, hS.2.2.2.2.2.1.2⟩
          exact ret_i C hr hlocks h (hM (apM (sI (sI M 0 (nI 0)) 20 (nI 0)) 21 20 0 dc) uh) (⟨MSt.kp (M := (sI M 0 (nI 0))) hS (Kp.trans (((Kp.rfl' (sI M 0 (nI 0))).sI (k := 20) (by decide)).trans (apM_kp _ 0 dc)) (hM_kp _ uh)) (hM_kp2 _ uh hI9 huh1) (fun x hx => hx), by rw [hU]; rfl⟩) (by rw [hU]) rfl (by omega) (by omega) dX7_hash_92
        · have hU : hshS dc x y = (2, 0) := by rw [hx0, if_pos (Or.inr c32)]
          refine lv_iconst (v := nI 2) hx hb dX7_hash_35 (by decide) ?_
          refine lv_goto (tgt := 40) hx hb dX7_hash_36 (by decide) ?_
          refine m_pi C h 0 (v := nI 2) (by decide) rfl rfl rfl q1870 rfl rfl dX7_hash_40 (fun H locs h => ?_)
          refine lv_aload_n hx hb dX7_hash_43 rfl (lv_at hl 0 rfl) ?_
          refine m_gi C h 0 (by decide) rfl rfl q1870 (v := nI 2) rfl dX7_hash_44 ?_
          refine n_if_le (tgt := 52) hx hb (by omega) dX7_hash_47 (by decide) (fun c47 => by exfalso; omega) (fun c47 => ?_)
          refine lv_iconst (v := nI 0) hx hb dX7_hash_50 (by decide) ?_
          subst hQ
          exact ret_i C hr hlocks h (sI M 0 (nI 2)) (⟨hS, by rw [hU]; rfl⟩) (by rw [hU]) rfl (by omega) (by omega) dX7_hash_51
    · have hU : hshS dc x y = (1, 0) := by unfold hshS; rw [if_pos ⟨c3, c8⟩]
      refine lv_iconst (v := nI 1) hx hb dX7_hash_11 (by decide) ?_
      refine lv_goto (tgt := 40) hx hb dX7_hash_12 (by decide) ?_
      refine m_pi C h 0 (v := nI 1) (by decide) rfl rfl rfl q1870 rfl rfl dX7_hash_40 (fun H locs h => ?_)
      refine lv_aload_n hx hb dX7_hash_43 rfl (lv_at hl 0 rfl) ?_
      refine m_gi C h 0 (by decide) rfl rfl q1870 (v := nI 1) rfl dX7_hash_44 ?_
      refine n_if_le (tgt := 52) hx hb (by omega) dX7_hash_47 (by decide) (fun c47 => by exfalso; omega) (fun c47 => ?_)
      refine lv_iconst (v := nI 0) hx hb dX7_hash_50 (by decide) ?_
      subst hQ
      exact ret_i C hr hlocks h (sI M 0 (nI 1)) (⟨hS, by rw [hU]; rfl⟩) (by rw [hU]) rfl (by omega) (by omega) dX7_hash_51
