set_option maxRecDepth 100000
def yM (M : MS) (x48 : Int32) (x54 : Int32) (x55 : Int32) (x49 : Int64) (x50 : Option Nat) (x51 : Option Nat) (x52 : Option Nat) (x53 : Option Nat) : MS := sR (sR (sR (sR (sL (sI (sI (sI M 48 x48) 54 x54) 55 x55) 49 x49) 50 x50) 51 x51) 52 x52) 53 x53
theorem yM_id (M : MS) : yM M (mI M 48) (mI M 54) (mI M 55) (mL M 49) (mR M 50) (mR M 51) (mR M 52) (mR M 53) = M := MS.ext (by
    show upN (upN (upN M.1 48 (M.1 48)) 54 (M.1 54)) 55 (M.1 55) = M.1
    rw [upN_same M.1 48 _ rfl, upN_same M.1 54 _ rfl, upN_same M.1 55 _ rfl]) (by
    show upN M.2.1 49 (M.2.1 49) = M.2.1
    rw [upN_same M.2.1 49 _ rfl]) (by
    show upN (upN (upN (upN M.2.2.1 50 (M.2.2.1 50)) 51 (M.2.2.1 51)) 52 (M.2.2.1 52)) 53 (M.2.2.1 53) = M.2.2.1
    rw [upN_same M.2.2.1 50 _ rfl, upN_same M.2.2.1 51 _ rfl, upN_same M.2.2.1 52 _ rfl, upN_same M.2.2.1 53 _ rfl]) rfl rfl rfl
theorem yM_48 (M : MS) (x48 : Int32) (x54 : Int32) (x55 : Int32) (x49 : Int64) (x50 : Option Nat) (x51 : Option Nat) (x52 : Option Nat) (x53 : Option Nat) (y : Int32) : sI (yM M x48 x54 x55 x49 x50 x51 x52 x53) 48 y = yM M y x54 x55 x49 x50 x51 x52 x53 := MS.ext (by
    show upN (upN (upN (upN M.1 48 x48) 54 x54) 55 x55) 48 y = upN (upN (upN M.1 48 y) 54 x54) 55 x55
    rw [upN_comm _ _ _ (by decide : (55 : Nat) ≠ 48), upN_comm _ _ _ (by decide : (54 : Nat) ≠ 48), upN_upN]) rfl rfl rfl rfl rfl
theorem yM_54 (M : MS) (x48 : Int32) (x54 : Int32) (x55 : Int32) (x49 : Int64) (x50 : Option Nat) (x51 : Option Nat) (x52 : Option Nat) (x53 : Option Nat) (y : Int32) : sI (yM M x48 x54 x55 x49 x50 x51 x52 x53) 54 y = yM M x48 y x55 x49 x50 x51 x52 x53 := MS.ext (by
    show upN (upN (upN (upN M.1 48 x48) 54 x54) 55 x55) 54 y = upN (upN (upN M.1 48 x48) 54 y) 55 x55
    rw [upN_comm _ _ _ (by decide : (55 : Nat) ≠ 54), upN_upN]) rfl rfl rfl rfl rfl
theorem yM_55 (M : MS) (x48 : Int32) (x54 : Int32) (x55 : Int32) (x49 : Int64) (x50 : Option Nat) (x51 : Option Nat) (x52 : Option Nat) (x53 : Option Nat) (y : Int32) : sI (yM M x48 x54 x55 x49 x50 x51 x52 x53) 55 y = yM M x48 x54 y x49 x50 x51 x52 x53 := MS.ext (by
    show upN (upN (upN (upN M.1 48 x48) 54 x54) 55 x55) 55 y = upN (upN (upN M.1 48 x48) 54 x54) 55 y
    rw [upN_upN]) rfl rfl rfl rfl rfl
theorem yM_49 (M : MS) (x48 : Int32) (x54 : Int32) (x55 : Int32) (x49 : Int64) (x50 : Option Nat) (x51 : Option Nat) (x52 : Option Nat) (x53 : Option Nat) (y : Int64) : sL (yM M x48 x54 x55 x49 x50 x51 x52 x53) 49 y = yM M x48 x54 x55 y x50 x51 x52 x53 := MS.ext rfl (by
    show upN (upN M.2.1 49 x49) 49 y = upN M.2.1 49 y
    rw [upN_upN]) rfl rfl rfl rfl
theorem yM_50 (M : MS) (x48 : Int32) (x54 : Int32) (x55 : Int32) (x49 : Int64) (x50 : Option Nat) (x51 : Option Nat) (x52 : Option Nat) (x53 : Option Nat) (y : Option Nat) : sR (yM M x48 x54 x55 x49 x50 x51 x52 x53) 50 y = yM M x48 x54 x55 x49 y x51 x52 x53 := MS.ext rfl rfl (by
    show upN (upN (upN (upN (upN M.2.2.1 50 x50) 51 x51) 52 x52) 53 x53) 50 y = upN (upN (upN (upN M.2.2.1 50 y) 51 x51) 52 x52) 53 x53
    rw [upN_comm _ _ _ (by decide : (53 : Nat) ≠ 50), upN_comm _ _ _ (by decide : (52 : Nat) ≠ 50), upN_comm _ _ _ (by decide : (51 : Nat) ≠ 50), upN_upN]) rfl rfl rfl
theorem yM_51 (M : MS) (x48 : Int32) (x54 : Int32) (x55 : Int32) (x49 : Int64) (x50 : Option Nat) (x51 : Option Nat) (x52 : Option Nat) (x53 : Option Nat) (y : Option Nat) : sR (yM M x48 x54 x55 x49 x50 x51 x52 x53) 51 y = yM M x48 x54 x55 x49 x50 y x52 x53 := MS.ext rfl rfl (by
    show upN (upN (upN (upN (upN M.2.2.1 50 x50) 51 x51) 52 x52) 53 x53) 51 y = upN (upN (upN (upN M.2.2.1 50 x50) 51 y) 52 x52) 53 x53
    rw [upN_comm _ _ _ (by decide : (53 : Nat) ≠ 51), upN_comm _ _ _ (by decide : (52 : Nat) ≠ 51), upN_upN]) rfl rfl rfl
theorem yM_52 (M : MS) (x48 : Int32) (x54 : Int32) (x55 : Int32) (x49 : Int64) (x50 : Option Nat) (x51 : Option Nat) (x52 : Option Nat) (x53 : Option Nat) (y : Option Nat) : sR (yM M x48 x54 x55 x49 x50 x51 x52 x53) 52 y = yM M x48 x54 x55 x49 x50 x51 y x53 := MS.ext rfl rfl (by
    show upN (upN (upN (upN (upN M.2.2.1 50 x50) 51 x51) 52 x52) 53 x53) 52 y = upN (upN (upN (upN M.2.2.1 50 x50) 51 x51) 52 y) 53 x53
    rw [upN_comm _ _ _ (by decide : (53 : Nat) ≠ 52), upN_upN]) rfl rfl rfl
theorem yM_53 (M : MS) (x48 : Int32) (x54 : Int32) (x55 : Int32) (x49 : Int64) (x50 : Option Nat) (x51 : Option Nat) (x52 : Option Nat) (x53 : Option Nat) (y : Option Nat) : sR (yM M x48 x54 x55 x49 x50 x51 x52 x53) 53 y = yM M x48 x54 x55 x49 x50 x51 x52 y := MS.ext rfl rfl (by
    show upN (upN (upN (upN (upN M.2.2.1 50 x50) 51 x51) 52 x52) 53 x53) 53 y = upN (upN (upN (upN M.2.2.1 50 x50) 51 x51) 52 x52) 53 y
    rw [upN_upN]) rfl rfl rfl
theorem yM_re (M : MS) (x48 : Int32) (x54 : Int32) (x55 : Int32) (x49 : Int64) (x50 : Option Nat) (x51 : Option Nat) (x52 : Option Nat) (x53 : Option Nat) (y48 : Int32) (y54 : Int32) (y55 : Int32) (y49 : Int64) (y50 : Option Nat) (y51 : Option Nat) (y52 : Option Nat) (y53 : Option Nat) : yM (yM M x48 x54 x55 x49 x50 x51 x52 x53) y48 y54 y55 y49 y50 y51 y52 y53 = yM M y48 y54 y55 y49 y50 y51 y52 y53 := by
  show sR (sR (sR (sR (sL (sI (sI (sI (yM M x48 x54 x55 x49 x50 x51 x52 x53) 48 y48) 54 y54) 55 y55) 49 y49) 50 y50) 51 y51) 52 y52) 53 y53 = _
  rw [yM_48, yM_54, yM_55, yM_49, yM_50, yM_51, yM_52, yM_53]
theorem oM_yM (M : MS) (x48 : Int32) (x54 : Int32) (x55 : Int32) (x49 : Int64) (x50 : Option Nat) (x51 : Option Nat) (x52 : Option Nat) (x53 : Option Nat) (y54 : Int32) (y55 : Int32) : oM (yM M x48 x54 x55 x49 x50 x51 x52 x53) y54 y55 = yM M x48 y54 y55 x49 x50 x51 x52 x53 := by
  show sI (sI (yM M x48 x54 x55 x49 x50 x51 x52 x53) 54 y54) 55 y55 = _
  rw [yM_54, yM_55]

/-- a key's head: made, n, e, and where it ends -/
def kU1 (l : List Nat) : Nat × OU := oneS l (0, true)
def kU2 (l : List Nat) : Nat × OU := someS l 4 0 (kU1 l).2
def kU3 (l : List Nat) : Nat × OU := oneS l (kU2 l).2
def kU4 (l : List Nat) : List Nat × OU := numS l (kU3 l).2
def kU5 (l : List Nat) : List Nat × OU := numS l (kU4 l).2
def kMade (l : List Nat) : Nat := (kU2 l).1
def kN (l : List Nat) : List Nat := (kU4 l).1
def kE (l : List Nat) : List Nat := (kU5 l).1
def kSize (l : List Nat) : Nat := (kU5 l).2.1
def bitsL (l : List Nat) : Int32 := bitsI (gD l 0) l.length
def kHead (l : List Nat) : Bool := (kU5 l).2.2 && decide ((kU1 l).1 = 4) && decide ((kU3 l).1 = 1) && decide ((kN l).length ≠ 0) && decide ((kE l).length ≠ 0)
def kNums (l : List Nat) : Bool := !decide (bitsL (kN l) < nI 497) && !decide (nI 1024 < bitsL (kN l)) && !decide (bitsL (kE l) < nI 2) && !decide (nI 32 < bitsL (kE l)) && (decide (gD (kN l) ((kN l).length - 1) % 2 = 1) && decide (gD (kE l) ((kE l).length - 1) % 2 = 1))
/-- its secret -/
def kS0 (l : List Nat) : Nat × OU := oneS l (kU5 l).2
def kS1 (l : List Nat) : List Nat × OU := numS l (kS0 l).2
def kS2 (l : List Nat) : List Nat × OU := numS l (kS1 l).2
def kS3 (l : List Nat) : List Nat × OU := numS l (kS2 l).2
def kS4 (l : List Nat) : List Nat × OU := numS l (kS3 l).2
def kSum (l : List Nat) : Nat := (sl (gD l) (kS0 l).2.1 ((kS4 l).2.1 - (kS0 l).2.1)).sum
def kS5 (l : List Nat) : Nat × OU := someS l 2 0 (kS4 l).2
def kSec (l : List Nat) : List Nat := (kS1 l).1
def kSecOk (l : List Nat) : Bool := decide ((kS0 l).1 = 0) && (((kS5 l).2.2 && decide ((kS5 l).1 = kSum l % 65536)) && (decide ((kSec l).length = 0) || !decide (bitsL (kN l) < bitsL (kSec l)))) && decide ((kS5 l).2.1 = l.length)
def keyOk (l : List Nat) (hs : Bool) : Bool := kHead l && kNums l && (if hs = true then kSecOk l else ((kU5 l).2.2 && decide (kSize l = l.length)))

theorem sl_sum_le {l : List Nat} (h : byt l) (a n : Nat) : (sl (gD l) a n).sum ≤ 256 * n := by
  induction n with
  | zero => exact Nat.le_refl _
  | succ n ih =>
    have := byt_gD h (a + n)
    rw [sl_succ, List.sum_append]
    simp
    omega
theorem mem_l2 {α : Type} {x : α} {A B C : List α} (h : x ∈ A) : x ∈ (A ++ B) ++ C := List.mem_append_left _ (List.mem_append_left _ h)
set_option maxHeartbeats 400000 in
set_option maxRecDepth 100000 in
theorem c7_readKey (l : Launch) (D : va_G) (dA : Nat → ClassId) (B : Nat) (Z : State → Prop) (hZ : Stab B Z) (h0 : Nat) (ad : Nat → Nat) (M : MS) (F : va_W) (oa : Nat) (lb : List Nat) (hs : Bool) (hoF : (oa, ial dA lb) ∈ F) (hob : byt lb) (hol : lb.length ≤ 5000) :
    Ct (S := Int32 × Int32 × Int32 × Int64 × Option Nat × Option Nat × Option Nat × va_W) l D dA B Z yX7_readKey cX7_readKey 12 (some .boolean) 4 6 (6 * lb.length) [.ref h0, .ref oa, .int (bZ hs)] (mw dA h0 ad M ++ F) (fun u => keyOk lb hs = true → (u.1 = nI (kSize lb) ∧ u.2.2.2.1 = lN (kMade lb) ∧ (∃ q, u.2.2.2.2.1 = some q ∧ (q, ial dA (kN lb)) ∈ u.2.2.2.2.2.2.2) ∧ (∃ q, u.2.2.2.2.2.1 = some q ∧ (q, ial dA (kE lb)) ∈ u.2.2.2.2.2.2.2) ∧ (if hs = true then ∃ q, u.2.2.2.2.2.2.1 = some q ∧ (q, ial dA (kSec lb)) ∈ u.2.2.2.2.2.2.2 else u.2.2.2.2.2.2.1 = none))) (fun _ => some (.int (bZ (keyOk lb hs)))) (fun u => mw dA h0 ad (yM M u.1 u.2.1 u.2.2.1 u.2.2.2.1 u.2.2.2.2.1 u.2.2.2.2.2.1 u.2.2.2.2.2.2.1 (some oa)) ++ (F ++ u.2.2.2.2.2.2.2)) := by
  refine Ct.mk2 (by decide) (Nat.le_of_ble_eq_true rfl) hZ ?_
  intro p e R s m args below meth c ls Q C hr hlocks hin hQ hl h
  have C0 := C
  obtain ⟨hx, hb, hml, hown, hts, -⟩ := C0
  have hl : lv_has ls 12 [(0, .ref h0), (1, .ref oa), (2, .int (bZ hs))] := hl
  rw [← yM_id M] at h
  obtain ⟨E0, hE0⟩ : ∃ E0 : va_W, E0 = [] := ⟨_, rfl⟩
  have h : Wd D B s (mw dA h0 ad (yM M (mI M 48) (mI M 54) (mI M 55) (mL M 49) (mR M 50) (mR M 51) (mR M 52) (mR M 53)) ++ (F ++ E0)) s.heap [] := by rw [hE0, List.append_nil]; exact h
  have hl_kU1 : (kU1 lb).2.1 ≤ lb.length := (oneS_le (Nat.zero_le _)).1
  have hl_kU2 : (kU2 lb).2.1 ≤ lb.length := (someS_ok hob 4 0 0 _ hl_kU1 (by decide)).2.1
  have hl_kU3 : (kU3 lb).2.1 ≤ lb.length := (oneS_le hl_kU2).1
  have hl_kU4 : (kU4 lb).2.1 ≤ lb.length := (numS_ok hob _ hl_kU3).1
  have hl_kU5 : (kU5 lb).2.1 ≤ lb.length := (numS_ok hob _ hl_kU4).1
  have hl_kS0 : (kS0 lb).2.1 ≤ lb.length := (oneS_le hl_kU5).1
  have hl_kS1 : (kS1 lb).2.1 ≤ lb.length := (numS_ok hob _ hl_kS0).1
  have hl_kS2 : (kS2 lb).2.1 ≤ lb.length := (numS_ok hob _ hl_kS1).1
  have hl_kS3 : (kS3 lb).2.1 ≤ lb.length := (numS_ok hob _ hl_kS2).1
  have hl_kS4 : (kS4 lb).2.1 ≤ lb.length := (numS_ok hob _ hl_kS3).1
  have hl_kS5 : (kS5 lb).2.1 ≤ lb.length := (someS_ok hob 2 0 0 _ hl_kS4 (by decide)).2.1
  have hb_kN : byt (kN lb) := (numS_ok hob _ hl_kU3).2.1
  have hn_kN : (kN lb).length ≤ lb.length := (numS_ok hob _ hl_kU3).2.2.1
  have hb_kE : byt (kE lb) := (numS_ok hob _ hl_kU4).2.1
  have hn_kE : (kE lb).length ≤ lb.length := (numS_ok hob _ hl_kU4).2.2.1
  have hb_kSec : byt (kSec lb) := (numS_ok hob _ hl_kS0).2.1
  have hn_kSec : (kSec lb).length ≤ lb.length := (numS_ok hob _ hl_kS0).2.2.1
  have h8_1 : (kU1 lb).1 < 256 := oneS_lt hob _
  have h8_3 : (kU3 lb).1 < 256 := oneS_lt hob _
  have h8_s : (kS0 lb).1 < 256 := oneS_lt hob _
  have h8_d : (kS5 lb).1 < 256 ^ (0 + 2) := (someS_ok hob 2 0 0 _ hl_kS4 (by decide)).1
  have h8_d : (kS5 lb).1 < 65536 := h8_d
  refine lv_aload_n hx hb dX7_readKey_0 rfl (lv_at hl 0 rfl) ?_
  refine lv_aload_n hx hb dX7_readKey_1 rfl (lv_at hl 1 rfl) ?_
  refine m_pr C h 53 (v := some oa) (by decide) rfl rfl rfl q1923 rfl rfl dX7_readKey_2 (fun H locs h => ?_)
  rw [yM_53] at h
  have h : Wd D B s (mw dA h0 ad (yM M (mI M 48) (mI M 54) (mI M 55) (mL M 49) (mR M 50) (mR M 51) (mR M 52) (some oa)) ++ (F ++ E0)) H locs := h
  refine lv_aload_n hx hb dX7_readKey_5 rfl (lv_at hl 0 rfl) ?_
  refine lv_iconst (v := nI 0) hx hb dX7_readKey_6 (by decide) ?_
  refine m_pi C h 54 (v := nI 0) (by decide) rfl rfl rfl q1924 rfl rfl dX7_readKey_7 (fun H locs h => ?_)
  rw [yM_54] at h
  have h : Wd D B s (mw dA h0 ad (yM M (mI M 48) (nI 0) (mI M 55) (mL M 49) (mR M 50) (mR M 51) (mR M 52) (some oa)) ++ (F ++ E0)) H locs := h
  refine lv_aload_n hx hb dX7_readKey_10 rfl (lv_at hl 0 rfl) ?_
  refine lv_iconst (v := bZ true) hx hb dX7_readKey_11 (by decide) ?_
  refine m_pi C h 55 (v := bZ true) (by decide) rfl rfl rfl q1925 (bZ_nar _) (bZ_fit _) dX7_readKey_12 (fun H locs h => ?_)
  rw [yM_55] at h
  have h : Wd D B s (mw dA h0 ad (yM M (mI M 48) (nI 0) (bZ true) (mL M 49) (mR M 50) (mR M 51) (mR M 52) (some oa)) ++ (F ++ E0)) H locs := h
  refine lv_aload_n hx hb dX7_readKey_15 rfl (lv_at hl 0 rfl) ?_
  have h : Wd D B s (mw dA h0 ad (oM (yM M (mI M 48) (nI 0) (bZ true) (mL M 49) (mR M 50) (mR M 51) (mR M 52) (some oa)) (nI ((0, true) : OU).1) (bZ ((0, true) : OU).2)) ++ (F ++ E0)) H locs := by rw [oM_yM]; exact h
  refine call_V (As := []) (rest := []) (n := 0) C h (c7_one l D dA B Z hZ h0 ad (yM M (mI M 48) (nI 0) (bZ true) (mL M 49) (mR M 50) (mR M 51) (mR M 52) (some oa)) (F ++ E0) oa lb ((0, true) : OU) rfl (List.mem_append_left _ hoF) hob hol (Nat.zero_le _)) (lw_V q2221 q2223 qs61 q138 q2224) (by decide +kernel) (ci := 5) rfl rfl mw_mem0 (by decide) (by decide) rfl hl rfl (Nat.le_of_ble_eq_true rfl) dX7_readKey_16 (by omega) (fun _ H locs _ h => ?_)
  rw [oM_yM] at h
  have h : Wd D B s (mw dA h0 ad (yM M (mI M 48) (nI ((kU1 lb).2.1)) (bZ ((kU1 lb).2.2)) (mL M 49) (mR M 50) (mR M 51) (mR M 52) (some oa)) ++ (F ++ E0)) H locs := h
  show W p l e R s m args below meth c H locs (0 + 0) (0 + 0) Q (F0 m 19 ls [.int (nI ((kU1 lb).1))])
  have ja : ∀ (tja : Bool), (tja = decide ((kU1 lb).1 = 4)) → ∀ (H : Heap) (locs : List Loc), Wd D B s (mw dA h0 ad (yM M (mI M 48) (nI ((kU1 lb).2.1)) (bZ ((kU1 lb).2.2)) (mL M 49) (mR M 50) (mR M 51) (mR M 52) (some oa)) ++ (F ++ E0)) H locs → ∀ (ls : Array Slot), lv_has ls 12 [(0, .ref h0), (1, .ref oa), (2, .int (bZ hs))] → W p l e R s m args below meth c H locs (0 + 0) (0 + 0) Q (F0 m 28 ls [.int (bZ tja)]) := by
    intro tja  hja H locs h ls hl
    refine lv_istore_n (lv' := [(3, .int (bZ tja)), (0, .ref h0), (1, .ref oa), (2, .int (bZ hs))]) hx hb dX7_readKey_28 rfl hl (by decide) rfl (fun ls hl => ?_)
    refine lv_aload_n hx hb dX7_readKey_29 rfl (lv_at hl 1 rfl) ?_
    refine lv_aload_n hx hb dX7_readKey_30 rfl (lv_at hl 1 rfl) ?_
    refine lv_iconst (v := nI 4) hx hb dX7_readKey_31 (by decide) ?_
    have h : Wd D B s (mw dA h0 ad (oM (yM M (mI M 48) (nI ((kU1 lb).2.1)) (bZ ((kU1 lb).2.2)) (mL M 49) (mR M 50) (mR M 51) (mR M 52) (some oa)) (nI (kU1 lb).2.1) (bZ (kU1 lb).2.2)) ++ (F ++ E0)) H locs := by rw [oM_yM]; exact h
    refine call_V (As := [.int (nI 4)]) (rest := [.ref h0]) (n := 1) C h (c7_some l D dA B Z hZ h0 ad (yM M (mI M 48) (nI ((kU1 lb).2.1)) (bZ ((kU1 lb).2.2)) (mL M 49) (mR M 50) (mR M 51) (mR M 52) (some oa)) (F ++ E0) oa lb (kU1 lb).2 4 rfl (List.mem_append_left _ hoF) hob hol hl_kU1 (by decide)) (lw_V q2225 q2227 qs62 q138 q2228) (by decide +kernel) (ci := 5) rfl rfl mw_mem0 (by decide) (by decide) rfl hl rfl (Nat.le_of_ble_eq_true rfl) dX7_readKey_32 (by omega) (fun _ H locs _ h => ?_)
    rw [oM_yM] at h
    have h : Wd D B s (mw dA h0 ad (yM M (mI M 48) (nI ((kU2 lb).2.1)) (bZ ((kU2 lb).2.2)) (mL M 49) (mR M 50) (mR M 51) (mR M 52) (some oa)) ++ (F ++ E0)) H locs := h
    show W p l e R s m args below meth c H locs (0 + 0 + 0) (0 + 0 + 0) Q (F0 m 35 ls [.long (lN ((kU2 lb).1)), .ref h0])
    refine m_pl C h 49 (v := lN ((kU2 lb).1)) (by decide) rfl rfl rfl q1919 rfl rfl dX7_readKey_35 (fun H locs h => ?_)
    rw [yM_49] at h
    have h : Wd D B s (mw dA h0 ad (yM M (mI M 48) (nI ((kU2 lb).2.1)) (bZ ((kU2 lb).2.2)) (lN ((kU2 lb).1)) (mR M 50) (mR M 51) (mR M 52) (some oa)) ++ (F ++ E0)) H locs := h
    refine lv_aload_n hx hb dX7_readKey_38 rfl (lv_at hl 1 rfl) ?_
    have h : Wd D B s (mw dA h0 ad (oM (yM M (mI M 48) (nI ((kU2 lb).2.1)) (bZ ((kU2 lb).2.2)) (lN ((kU2 lb).1)) (mR M 50) (mR M 51) (mR M 52) (some oa)) (nI (kU2 lb).2.1) (bZ (kU2 lb).2.2)) ++ (F ++ E0)) H locs := by rw [oM_yM]; exact h
    refine call_V (As := []) (rest := []) (n := 0) C h (c7_one l D dA B Z hZ h0 ad (yM M (mI M 48) (nI ((kU2 lb).2.1)) (bZ ((kU2 lb).2.2)) (lN ((kU2 lb).1)) (mR M 50) (mR M 51) (mR M 52) (some oa)) (F ++ E0) oa lb (kU2 lb).2 rfl (List.mem_append_left _ hoF) hob hol hl_kU2) (lw_V q2221 q2223 qs61 q138 q2224) (by decide +kernel) (ci := 5) rfl rfl mw_mem0 (by decide) (by decide) rfl hl rfl (Nat.le_of_ble_eq_true rfl) dX7_readKey_39 (by omega) (fun _ H locs _ h => ?_)
    rw [oM_yM] at h
    have h : Wd D B s (mw dA h0 ad (yM M (mI M 48) (nI ((kU3 lb).2.1)) (bZ ((kU3 lb).2.2)) (lN ((kU2 lb).1)) (mR M 50) (mR M 51) (mR M 52) (some oa)) ++ (F ++ E0)) H locs := h
    show W p l e R s m args below meth c H locs (0 + 0 + 0 + 0) (0 + 0 + 0 + 0) Q (F0 m 42 ls [.int (nI ((kU3 lb).1))])
    have jb : ∀ (tjb : Bool), (tjb = decide ((kU3 lb).1 = 1)) → ∀ (H : Heap) (locs : List Loc), Wd D B s (mw dA h0 ad (yM M (mI M 48) (nI ((kU3 lb).2.1)) (bZ ((kU3 lb).2.2)) (lN ((kU2 lb).1)) (mR M 50) (mR M 51) (mR M 52) (some oa)) ++ (F ++ E0)) H locs → ∀ (ls : Array Slot), lv_has ls 12 [(3, .int (bZ tja)), (0, .ref h0), (1, .ref oa), (2, .int (bZ hs))] → W p l e R s m args below meth c H locs (0 + 0 + 0 + 0) (0 + 0 + 0 + 0) Q (F0 m 51 ls [.int (bZ tjb)]) := by
      intro tjb  hjb H locs h ls hl
      refine lv_istore (lv' := [(4, .int (bZ tjb)), (3, .int (bZ tja)), (0, .ref h0), (1, .ref oa), (2, .int (bZ hs))]) hx hb dX7_readKey_51 hl (by decide) rfl (fun ls hl => ?_)
      refine lv_aload_n hx hb dX7_readKey_53 rfl (lv_at hl 2 rfl) ?_
      refine lv_aload_n hx hb dX7_readKey_54 rfl (lv_at hl 2 rfl) ?_
      have h : Wd D B s (mw dA h0 ad (oM (yM M (mI M 48) (nI ((kU3 lb).2.1)) (bZ ((kU3 lb).2.2)) (lN ((kU2 lb).1)) (mR M 50) (mR M 51) (mR M 52) (some oa)) (nI (kU3 lb).2.1) (bZ (kU3 lb).2.2)) ++ (F ++ E0)) H locs := by rw [oM_yM]; exact h
      refine call_V (As := []) (rest := [.ref h0]) (n := 0) C h (c7_numberOf l D dA B Z hZ h0 ad (yM M (mI M 48) (nI ((kU3 lb).2.1)) (bZ ((kU3 lb).2.2)) (lN ((kU2 lb).1)) (mR M 50) (mR M 51) (mR M 52) (some oa)) (F ++ E0) oa lb (kU3 lb).2 rfl (List.mem_append_left _ hoF) hob hol hl_kU3) (lw_V q2229 q2231 qs63 q138 q2232) (by decide +kernel) (ci := 5) rfl rfl mw_mem0 (by decide) (by decide) rfl hl rfl (Nat.le_of_ble_eq_true rfl) dX7_readKey_55 (by omega) (fun q_kU4 H locs _ h => ?_)
      rw [oM_yM, List.append_assoc] at h
      obtain ⟨E_kU4, hE_kU4⟩ : ∃ z, z = E0 ++ [(q_kU4, ial dA (kU4 lb).1)] := ⟨_, rfl⟩
      have hm_kU4 : (q_kU4, ial dA (kN lb)) ∈ E_kU4 := by rw [hE_kU4]; exact List.mem_append_right _ List.mem_cons_self
      have hu_kU4 : ∀ z ∈ E0, z ∈ E_kU4 := fun z hz => by rw [hE_kU4]; exact List.mem_append_left _ hz
      have h : Wd D B s (mw dA h0 ad (yM M (mI M 48) (nI ((kU4 lb).2.1)) (bZ ((kU4 lb).2.2)) (lN ((kU2 lb).1)) (mR M 50) (mR M 51) (mR M 52) (some oa)) ++ (F ++ E_kU4)) H locs := by rw [hE_kU4]; exact h
      refine m_pr C h 50 (v := some q_kU4) (by decide) rfl rfl rfl q1920 rfl rfl dX7_readKey_58 (fun H locs h => ?_)
      rw [yM_50] at h
      have h : Wd D B s (mw dA h0 ad (yM M (mI M 48) (nI ((kU4 lb).2.1)) (bZ ((kU4 lb).2.2)) (lN ((kU2 lb).1)) (some q_kU4) (mR M 51) (mR M 52) (some oa)) ++ (F ++ E_kU4)) H locs := h
      refine lv_aload_n hx hb dX7_readKey_61 rfl (lv_at hl 2 rfl) ?_
      refine lv_aload_n hx hb dX7_readKey_62 rfl (lv_at hl 2 rfl) ?_
      have h : Wd D B s (mw dA h0 ad (oM (yM M (mI M 48) (nI ((kU4 lb).2.1)) (bZ ((kU4 lb).2.2)) (lN ((kU2 lb).1)) (some q_kU4) (mR M 51) (mR M 52) (some oa)) (nI (kU4 lb).2.1) (bZ (kU4 lb).2.2)) ++ (F ++ E_kU4)) H locs := by rw [oM_yM]; exact h
      refine call_V (As := []) (rest := [.ref h0]) (n := 0) C h (c7_numberOf l D dA B Z hZ h0 ad (yM M (mI M 48) (nI ((kU4 lb).2.1)) (bZ ((kU4 lb).2.2)) (lN ((kU2 lb).1)) (some q_kU4) (mR M 51) (mR M 52) (some oa)) (F ++ E_kU4) oa lb (kU4 lb).2 rfl (List.mem_append_left _ hoF) hob hol hl_kU4) (lw_V q2229 q2231 qs63 q138 q2232) (by decide +kernel) (ci := 5) rfl rfl mw_mem0 (by decide) (by decide) rfl hl rfl (Nat.le_of_ble_eq_true rfl) dX7_readKey_63 (by omega) (fun q_kU5 H locs _ h => ?_)
      rw [oM_yM, List.append_assoc] at h
      obtain ⟨E_kU5, hE_kU5⟩ : ∃ z, z = E_kU4 ++ [(q_kU5, ial dA (kU5 lb).1)] := ⟨_, rfl⟩
      have hm_kU5 : (q_kU5, ial dA (kE lb)) ∈ E_kU5 := by rw [hE_kU5]; exact List.mem_append_right _ List.mem_cons_self
      have hu_kU5 : ∀ z ∈ E_kU4, z ∈ E_kU5 := fun z hz => by rw [hE_kU5]; exact List.mem_append_left _ hz
      have h : Wd D B s (mw dA h0 ad (yM M (mI M 48) (nI ((kU5 lb).2.1)) (bZ ((kU5 lb).2.2)) (lN ((kU2 lb).1)) (some q_kU4) (mR M 51) (mR M 52) (some oa)) ++ (F ++ E_kU5)) H locs := by rw [hE_kU5]; exact h
      refine m_pr C h 51 (v := some q_kU5) (by decide) rfl rfl rfl q1921 rfl rfl dX7_readKey_66 (fun H locs h => ?_)
      rw [yM_51] at h
      have h : Wd D B s (mw dA h0 ad (yM M (mI M 48) (nI ((kU5 lb).2.1)) (bZ ((kU5 lb).2.2)) (lN ((kU2 lb).1)) (some q_kU4) (some q_kU5) (mR M 52) (some oa)) ++ (F ++ E_kU5)) H locs := h
      refine lv_aload_n hx hb dX7_readKey_69 rfl (lv_at hl 2 rfl) ?_
      refine lv_aload_n hx hb dX7_readKey_70 rfl (lv_at hl 2 rfl) ?_
      refine m_gi C h 54 (by decide) rfl rfl q1924 (v := nI ((kU5 lb).2.1)) rfl dX7_readKey_71 ?_
      refine m_pi C h 48 (v := nI ((kU5 lb).2.1)) (by decide) rfl rfl rfl q1918 rfl rfl dX7_readKey_74 (fun H locs h => ?_)
      rw [yM_48] at h
      have h : Wd D B s (mw dA h0 ad (yM M (nI ((kU5 lb).2.1)) (nI ((kU5 lb).2.1)) (bZ ((kU5 lb).2.2)) (lN ((kU2 lb).1)) (some q_kU4) (some q_kU5) (mR M 52) (some oa)) ++ (F ++ E_kU5)) H locs := h
      refine lv_aload_n hx hb dX7_readKey_77 rfl (lv_at hl 2 rfl) ?_
      refine m_gi C h 55 (by decide) rfl rfl q1925 (v := bZ ((kU5 lb).2.2)) rfl dX7_readKey_78 ?_
      refine z_if_eq (tgt := 109) hx hb dX7_readKey_81 (by decide) (fun c81 => ?_) (fun c81 => ?_)
      · refine lv_iconst (v := nI 0) hx hb dX7_readKey_109 (by decide) ?_
        subst hQ
        have hko : keyOk lb hs = false := by
          cases hq : keyOk lb hs with
          | false => rfl
          | true =>
            exfalso
            unfold keyOk kHead kNums at hq
            simp only [Bool.and_eq_true, decide_eq_true_eq, Bool.not_eq_true', decide_eq_false_iff_not] at hq
            obtain ⟨⟨⟨⟨⟨⟨e1, e2⟩, e3⟩, e4⟩, e5⟩, ⟨⟨⟨⟨f1, f2⟩, f3⟩, f4⟩, f5⟩⟩, e7⟩ := hq
            first
              | exact absurd (e1.symm.trans c81) (by decide)
              | exact absurd ((decide_eq_true e2).symm.trans (hja.symm.trans c85)) (by decide)
              | exact absurd ((decide_eq_true e3).symm.trans (hjb.symm.trans c90)) (by decide)
              | exact e4 c98
              | exact e5 c106
        refine n_top (y := bZ false) rfl ?_
        exact ret_z C hr hlocks h (nI ((kU5 lb).2.1), nI ((kU5 lb).2.1), bZ ((kU5 lb).2.2), lN ((kU2 lb).1), some q_kU4, some q_kU5, mR M 52, E_kU5) (fun hk => by rw [hko] at hk; cases hk) (by rw [hko]) rfl (by omega) (by omega) dX7_readKey_110
      · refine lv_iload_n hx hb dX7_readKey_84 rfl (lv_at hl 1 rfl) ?_
        refine z_if_eq (tgt := 109) hx hb dX7_readKey_85 (by decide) (fun c85 => ?_) (fun c85 => ?_)
        · refine lv_iconst (v := nI 0) hx hb dX7_readKey_109 (by decide) ?_
          subst hQ
          have hko : keyOk lb hs = false := by
            cases hq : keyOk lb hs with
            | false => rfl
            | true =>
              exfalso
              unfold keyOk kHead kNums at hq
              simp only [Bool.and_eq_true, decide_eq_true_eq, Bool.not_eq_true', decide_eq_false_iff_not] at hq
              obtain ⟨⟨⟨⟨⟨⟨e1, e2⟩, e3⟩, e4⟩, e5⟩, ⟨⟨⟨⟨f1, f2⟩, f3⟩, f4⟩, f5⟩⟩, e7⟩ := hq
              first
                | exact absurd (e1.symm.trans c81) (by decide)
                | exact absurd ((decide_eq_true e2).symm.trans (hja.symm.trans c85)) (by decide)
                | exact absurd ((decide_eq_true e3).symm.trans (hjb.symm.trans c90)) (by decide)
                | exact e4 c98
                | exact e5 c106
          refine n_top (y := bZ false) rfl ?_
          exact ret_z C hr hlocks h (nI ((kU5 lb).2.1), nI ((kU5 lb).2.1), bZ ((kU5 lb).2.2), lN ((kU2 lb).1), some q_kU4, some q_kU5, mR M 52, E_kU5) (fun hk => by rw [hko] at hk; cases hk) (by rw [hko]) rfl (by omega) (by omega) dX7_readKey_110
        · refine lv_iload hx hb dX7_readKey_88 (lv_at hl 0 rfl) ?_
          refine z_if_eq (tgt := 109) hx hb dX7_readKey_90 (by decide) (fun c90 => ?_) (fun c90 => ?_)
          · refine lv_iconst (v := nI 0) hx hb dX7_readKey_109 (by decide) ?_
            subst hQ
            have hko : keyOk lb hs = false := by
              cases hq : keyOk lb hs with
              | false => rfl
              | true =>
                exfalso
                unfold keyOk kHead kNums at hq
                simp only [Bool.and_eq_true, decide_eq_true_eq, Bool.not_eq_true', decide_eq_false_iff_not] at hq
                obtain ⟨⟨⟨⟨⟨⟨e1, e2⟩, e3⟩, e4⟩, e5⟩, ⟨⟨⟨⟨f1, f2⟩, f3⟩, f4⟩, f5⟩⟩, e7⟩ := hq
                first
                  | exact absurd (e1.symm.trans c81) (by decide)
                  | exact absurd ((decide_eq_true e2).symm.trans (hja.symm.trans c85)) (by decide)
                  | exact absurd ((decide_eq_true e3).symm.trans (hjb.symm.trans c90)) (by decide)
                  | exact e4 c98
                  | exact e5 c106
            refine n_top (y := bZ false) rfl ?_
            exact ret_z C hr hlocks h (nI ((kU5 lb).2.1), nI ((kU5 lb).2.1), bZ ((kU5 lb).2.2), lN ((kU2 lb).1), some q_kU4, some q_kU5, mR M 52, E_kU5) (fun hk => by rw [hko] at hk; cases hk) (by rw [hko]) rfl (by omega) (by omega) dX7_readKey_110
          · refine lv_aload_n hx hb dX7_readKey_93 rfl (lv_at hl 2 rfl) ?_
            refine m_gr C h 50 (by decide) rfl rfl q1920 (v := some q_kU4) rfl dX7_readKey_94 ?_
            refine n_alen C h (List.mem_append_right _ (List.mem_append_right _ (hu_kU5 _ (hm_kU4)))) dX7_readKey_97 ?_
            refine n_if_eq (tgt := 109) hx hb (by omega) dX7_readKey_98 (by decide) (fun c98 => ?_) (fun c98 => ?_)
            · refine lv_iconst (v := nI 0) hx hb dX7_readKey_109 (by decide) ?_
              subst hQ
              have hko : keyOk lb hs = false := by
                cases hq : keyOk lb hs with
                | false => rfl
                | true =>
                  exfalso
                  unfold keyOk kHead kNums at hq
                  simp only [Bool.and_eq_true, decide_eq_true_eq, Bool.not_eq_true', decide_eq_false_iff_not] at hq
                  obtain ⟨⟨⟨⟨⟨⟨e1, e2⟩, e3⟩, e4⟩, e5⟩, ⟨⟨⟨⟨f1, f2⟩, f3⟩, f4⟩, f5⟩⟩, e7⟩ := hq
                  first
                    | exact absurd (e1.symm.trans c81) (by decide)
                    | exact absurd ((decide_eq_true e2).symm.trans (hja.symm.trans c85)) (by decide)
                    | exact absurd ((decide_eq_true e3).symm.trans (hjb.symm.trans c90)) (by decide)
                    | exact e4 c98
                    | exact e5 c106
              refine n_top (y := bZ false) rfl ?_
              exact ret_z C hr hlocks h (nI ((kU5 lb).2.1), nI ((kU5 lb).2.1), bZ ((kU5 lb).2.2), lN ((kU2 lb).1), some q_kU4, some q_kU5, mR M 52, E_kU5) (fun hk => by rw [hko] at hk; cases hk) (by rw [hko]) rfl (by omega) (by omega) dX7_readKey_110
            · refine lv_aload_n hx hb dX7_readKey_101 rfl (lv_at hl 2 rfl) ?_
              refine m_gr C h 51 (by decide) rfl rfl q1921 (v := some q_kU5) rfl dX7_readKey_102 ?_
              refine n_alen C h (List.mem_append_right _ (List.mem_append_right _ (hm_kU5))) dX7_readKey_105 ?_
              refine n_if_ne (tgt := 111) hx hb (by omega) dX7_readKey_106 (by decide) (fun c106 => ?_) (fun c106 => ?_)
              · refine lv_aload_n hx hb dX7_readKey_111 rfl (lv_at hl 2 rfl) ?_
                refine m_gr C h 50 (by decide) rfl rfl q1920 (v := some q_kU4) rfl dX7_readKey_112 ?_
                refine call_S (As := [.ref q_kU4]) (rest := []) (n := 1) C h (c7_bitsOf l D dA B Z hZ _ q_kU4 (kN lb).length (gD (kN lb)) (List.mem_append_right _ (List.mem_append_right _ (hu_kU5 _ (hm_kU4)))) (by omega) (by omega) (byt_gD hb_kN 0)) (lw_S q2233 q2234 q138 q2235) (by decide +kernel) (by decide) (by decide) rfl hl rfl (Nat.le_of_ble_eq_true rfl) dX7_readKey_115 (by omega) (fun _ H locs _ h => ?_)
                show W p l e R s m args below meth c H locs (0 + 0 + 0 + 0 + 1 + 1 + 0) (0 + 0 + 0 + 0 + lb.length + lb.length + 0) Q (F0 m 118 ls [.int (bitsL (kN lb))])
                refine lv_istore (lv' := [(5, .int (bitsL (kN lb))), (4, .int (bZ tjb)), (3, .int (bZ tja)), (0, .ref h0), (1, .ref oa), (2, .int (bZ hs))]) hx hb dX7_readKey_118 hl (by decide) rfl (fun ls hl => ?_)
                refine lv_aload_n hx hb dX7_readKey_120 rfl (lv_at hl 3 rfl) ?_
                refine m_gr C h 51 (by decide) rfl rfl q1921 (v := some q_kU5) rfl dX7_readKey_121 ?_
                refine call_S (As := [.ref q_kU5]) (rest := []) (n := 1) C h (c7_bitsOf l D dA B Z hZ _ q_kU5 (kE lb).length (gD (kE lb)) (List.mem_append_right _ (List.mem_append_right _ (hm_kU5))) (by omega) (by omega) (byt_gD hb_kE 0)) (lw_S q2233 q2234 q138 q2235) (by decide +kernel) (by decide) (by decide) rfl hl rfl (Nat.le_of_ble_eq_true rfl) dX7_readKey_124 (by omega) (fun _ H locs _ h => ?_)
                show W p l e R s m args below meth c H locs (0 + 0 + 0 + 0 + 1 + 1 + 0 + 0) (0 + 0 + 0 + 0 + lb.length + lb.length + 0 + 0) Q (F0 m 127 ls [.int (bitsL (kE lb))])
                refine lv_istore (lv' := [(6, .int (bitsL (kE lb))), (5, .int (bitsL (kN lb))), (4, .int (bZ tjb)), (3, .int (bZ tja)), (0, .ref h0), (1, .ref oa), (2, .int (bZ hs))]) hx hb dX7_readKey_127 hl (by decide) rfl (fun ls hl => ?_)
                have ho1 := byt_gD hb_kN ((kN lb).length - 1)
                have ho2 := byt_gD hb_kE ((kE lb).length - 1)
                have jo : ∀ (tjo : Bool), (tjo = decide (gD (kN lb) ((kN lb).length - 1) % 2 = 1 ∧ gD (kE lb) ((kE lb).length - 1) % 2 = 1)) → ∀ (H : Heap) (locs : List Loc), Wd D B s (mw dA h0 ad (yM M (nI ((kU5 lb).2.1)) (nI ((kU5 lb).2.1)) (bZ ((kU5 lb).2.2)) (lN ((kU2 lb).1)) (some q_kU4) (some q_kU5) (mR M 52) (some oa)) ++ (F ++ E_kU5)) H locs → ∀ (ls : Array Slot), lv_has ls 12 [(6, .int (bitsL (kE lb))), (5, .int (bitsL (kN lb))), (4, .int (bZ tjb)), (3, .int (bZ tja)), (0, .ref h0), (1, .ref oa), (2, .int (bZ hs))] → W p l e R s m args below meth c H locs (0 + 0 + 0 + 0 + 1 + 1 + 0 + 0) (0 + 0 + 0 + 0 + lb.length + lb.length + 0 + 0) Q (F0 m 170 ls [.int (bZ tjo)]) := by
                  intro tjo  hjo H locs h ls hl
                  refine lv_istore (lv' := [(7, .int (bZ tjo)), (6, .int (bitsL (kE lb))), (5, .int (bitsL (kN lb))), (4, .int (bZ tjb)), (3, .int (bZ tja)), (0, .ref h0), (1, .ref oa), (2, .int (bZ hs))]) hx hb dX7_readKey_170 hl (by decide) rfl (fun ls hl => ?_)
                  refine lv_iload hx hb dX7_readKey_172 (lv_at hl 2 rfl) ?_
                  refine lv_sipush (v := nI 497) hx hb dX7_readKey_174 (by decide) ?_
                  refine lv_icmp_lt (tgt := 206) hx hb dX7_readKey_177 (by decide) (fun c177 => ?_) (fun c177 => ?_)
                  · refine lv_iconst (v := nI 0) hx hb dX7_readKey_206 (by decide) ?_
                    subst hQ
                    have hko : keyOk lb hs = false := by
                      cases hq : keyOk lb hs with
                      | false => rfl
                      | true =>
                        exfalso
                        unfold keyOk kHead kNums at hq
                        simp only [Bool.and_eq_true, decide_eq_true_eq, Bool.not_eq_true', decide_eq_false_iff_not] at hq
                        obtain ⟨⟨⟨⟨⟨⟨e1, e2⟩, e3⟩, e4⟩, e5⟩, ⟨⟨⟨⟨f1, f2⟩, f3⟩, f4⟩, f5⟩⟩, e7⟩ := hq
                        first
                          | exact f1 c177
                          | exact f2 c185
                          | exact f3 c191
                          | exact f4 c198
                          | exact absurd ((decide_eq_true f5).symm.trans (hjo.symm.trans c203)) (by decide)
                    refine n_top (y := bZ false) rfl ?_
                    exact ret_z C hr hlocks h (nI ((kU5 lb).2.1), nI ((kU5 lb).2.1), bZ ((kU5 lb).2.2), lN ((kU2 lb).1), some q_kU4, some q_kU5, mR M 52, E_kU5) (fun hk => by rw [hko] at hk; cases hk) (by rw [hko]) rfl (by omega) (by omega) dX7_readKey_207
                  · refine lv_iload hx hb dX7_readKey_180 (lv_at hl 2 rfl) ?_
                    refine lv_sipush (v := nI 1024) hx hb dX7_readKey_182 (by decide) ?_
                    refine lv_icmp_gt (tgt := 206) hx hb dX7_readKey_185 (by decide) (fun c185 => ?_) (fun c185 => ?_)
                    · refine lv_iconst (v := nI 0) hx hb dX7_readKey_206 (by decide) ?_
                      subst hQ
                      have hko : keyOk lb hs = false := by
                        cases hq : keyOk lb hs with
                        | false => rfl
                        | true =>
                          exfalso
                          unfold keyOk kHead kNums at hq
                          simp only [Bool.and_eq_true, decide_eq_true_eq, Bool.not_eq_true', decide_eq_false_iff_not] at hq
                          obtain ⟨⟨⟨⟨⟨⟨e1, e2⟩, e3⟩, e4⟩, e5⟩, ⟨⟨⟨⟨f1, f2⟩, f3⟩, f4⟩, f5⟩⟩, e7⟩ := hq
                          first
                            | exact f1 c177
                            | exact f2 c185
                            | exact f3 c191
                            | exact f4 c198
                            | exact absurd ((decide_eq_true f5).symm.trans (hjo.symm.trans c203)) (by decide)
                      refine n_top (y := bZ false) rfl ?_
                      exact ret_z C hr hlocks h (nI ((kU5 lb).2.1), nI ((kU5 lb).2.1), bZ ((kU5 lb).2.2), lN ((kU2 lb).1), some q_kU4, some q_kU5, mR M 52, E_kU5) (fun hk => by rw [hko] at hk; cases hk) (by rw [hko]) rfl (by omega) (by omega) dX7_readKey_207
                    · refine lv_iload hx hb dX7_readKey_188 (lv_at hl 1 rfl) ?_
                      refine lv_iconst (v := nI 2) hx hb dX7_readKey_190 (by decide) ?_
                      refine lv_icmp_lt (tgt := 206) hx hb dX7_readKey_191 (by decide) (fun c191 => ?_) (fun c191 => ?_)
                      · refine lv_iconst (v := nI 0) hx hb dX7_readKey_206 (by decide) ?_
                        subst hQ
                        have hko : keyOk lb hs = false := by
                          cases hq : keyOk lb hs with
                          | false => rfl
                          | true =>
                            exfalso
                            unfold keyOk kHead kNums at hq
                            simp only [Bool.and_eq_true, decide_eq_true_eq, Bool.not_eq_true', decide_eq_false_iff_not] at hq
                            obtain ⟨⟨⟨⟨⟨⟨e1, e2⟩, e3⟩, e4⟩, e5⟩, ⟨⟨⟨⟨f1, f2⟩, f3⟩, f4⟩, f5⟩⟩, e7⟩ := hq
                            first
                              | exact f1 c177
                              | exact f2 c185
                              | exact f3 c191
                              | exact f4 c198
                              | exact absurd ((decide_eq_true f5).symm.trans (hjo.symm.trans c203)) (by decide)
                        refine n_top (y := bZ false) rfl ?_
                        exact ret_z C hr hlocks h (nI ((kU5 lb).2.1), nI ((kU5 lb).2.1), bZ ((kU5 lb).2.2), lN ((kU2 lb).1), some q_kU4, some q_kU5, mR M 52, E_kU5) (fun hk => by rw [hko] at hk; cases hk) (by rw [hko]) rfl (by omega) (by omega) dX7_readKey_207
                      · refine lv_iload hx hb dX7_readKey_194 (lv_at hl 1 rfl) ?_
                        refine lv_bipush (v := nI 32) hx hb dX7_readKey_196 (by decide) ?_
                        refine lv_icmp_gt (tgt := 206) hx hb dX7_readKey_198 (by decide) (fun c198 => ?_) (fun c198 => ?_)
                        · refine lv_iconst (v := nI 0) hx hb dX7_readKey_206 (by decide) ?_
                          subst hQ
                          have hko : keyOk lb hs = false := by
                            cases hq : keyOk lb hs with
                            | false => rfl
                            | true =>
                              exfalso
                              unfold keyOk kHead kNums at hq
                              simp only [Bool.and_eq_true, decide_eq_true_eq, Bool.not_eq_true', decide_eq_false_iff_not] at hq
                              obtain ⟨⟨⟨⟨⟨⟨e1, e2⟩, e3⟩, e4⟩, e5⟩, ⟨⟨⟨⟨f1, f2⟩, f3⟩, f4⟩, f5⟩⟩, e7⟩ := hq
                              first
                                | exact f1 c177
                                | exact f2 c185
                                | exact f3 c191
                                | exact f4 c198
                                | exact absurd ((decide_eq_true f5).symm.trans (hjo.symm.trans c203)) (by decide)
                          refine n_top (y := bZ false) rfl ?_
                          exact ret_z C hr hlocks h (nI ((kU5 lb).2.1), nI ((kU5 lb).2.1), bZ ((kU5 lb).2.2), lN ((kU2 lb).1), some q_kU4, some q_kU5, mR M 52, E_kU5) (fun hk => by rw [hko] at hk; cases hk) (by rw [hko]) rfl (by omega) (by omega) dX7_readKey_207
                        · refine lv_iload hx hb dX7_readKey_201 (lv_at hl 0 rfl) ?_
                          refine z_if_ne (tgt := 208) hx hb dX7_readKey_203 (by decide) (fun c203 => ?_) (fun c203 => ?_)
                          · refine lv_aload_n hx hb dX7_readKey_208 rfl (lv_at hl 5 rfl) ?_
                            refine lv_null hx hb dX7_readKey_209 ?_
                            refine m_pr C h 52 (v := none) (by decide) rfl rfl rfl q1922 rfl rfl dX7_readKey_210 (fun H locs h => ?_)
                            rw [yM_52] at h
                            have h : Wd D B s (mw dA h0 ad (yM M (nI ((kU5 lb).2.1)) (nI ((kU5 lb).2.1)) (bZ ((kU5 lb).2.2)) (lN ((kU2 lb).1)) (some q_kU4) (some q_kU5) none (some oa)) ++ (F ++ E_kU5)) H locs := h
                            refine lv_iload_n hx hb dX7_readKey_213 rfl (lv_at hl 7 rfl) ?_
                            refine z_if_eq (tgt := 363) hx hb dX7_readKey_214 (by decide) (fun c214 => ?_) (fun c214 => ?_)
                            · have jz : ∀ (tjz : Bool), (tjz = decide (((kU5 lb).2.2) = true ∧ (kU5 lb).2.1 = lb.length)) → ∀ (H : Heap) (locs : List Loc), Wd D B s (mw dA h0 ad (yM M (nI ((kU5 lb).2.1)) (nI ((kU5 lb).2.1)) (bZ ((kU5 lb).2.2)) (lN ((kU2 lb).1)) (some q_kU4) (some q_kU5) none (some oa)) ++ (F ++ E_kU5)) H locs → ∀ (ls : Array Slot), lv_has ls 12 [(7, .int (bZ tjo)), (6, .int (bitsL (kE lb))), (5, .int (bitsL (kN lb))), (4, .int (bZ tjb)), (3, .int (bZ tja)), (0, .ref h0), (1, .ref oa), (2, .int (bZ hs))] → W p l e R s m args below meth c H locs (0 + 0 + 0 + 0 + 1 + 1 + 0 + 0) (0 + 0 + 0 + 0 + lb.length + lb.length + 0 + 0) Q (F0 m 384 ls [.int (bZ tjz)]) := by
                                intro tjz  hjz H locs h ls hl
                                subst hQ
                                have e2 : (kU1 lb).1 = 4 := of_decide_eq_true (hja ▸ c85)
                                have e3 : (kU3 lb).1 = 1 := of_decide_eq_true (hjb ▸ c90)
                                have o7 : gD (kN lb) ((kN lb).length - 1) % 2 = 1 ∧ gD (kE lb) ((kE lb).length - 1) % 2 = 1 := of_decide_eq_true (hjo ▸ c203)
                                have hko : keyOk lb hs = tjz := by
                                  unfold keyOk kHead kNums kSize
                                  rw [decide_eq_true e2, decide_eq_true e3, decide_eq_true c98, decide_eq_true c106, c81, decide_eq_false c177, decide_eq_false c185, decide_eq_false c191, decide_eq_false c198, decide_eq_true o7.1, decide_eq_true o7.2]
                                  rw [if_neg (by rw [c214]; decide)]
                                  simp [hjz, c81]
                                exact ret_z C hr hlocks h (nI ((kU5 lb).2.1), nI ((kU5 lb).2.1), bZ ((kU5 lb).2.2), lN ((kU2 lb).1), some q_kU4, some q_kU5, none, E_kU5) (fun _ => ⟨rfl, rfl, ⟨_, rfl, hu_kU5 _ (hm_kU4)⟩, ⟨_, rfl, hm_kU5⟩, by rw [if_neg (by rw [c214]; decide)]⟩) (by rw [hko]) rfl (by omega) (by omega) dX7_readKey_384
                              refine lv_aload_n hx hb dX7_readKey_363 rfl (lv_at hl 5 rfl) ?_
                              refine m_gi C h 55 (by decide) rfl rfl q1925 (v := bZ ((kU5 lb).2.2)) rfl dX7_readKey_364 ?_
                              refine z_if_eq (tgt := 383) hx hb dX7_readKey_367 (by decide) (fun c367 => ?_) (fun c367 => ?_)
                              · refine lv_iconst (v := nI 0) hx hb dX7_readKey_383 (by decide) ?_
                                refine n_top (y := bZ false) rfl ?_
                                exact jz false (by first | (rw [decide_eq_false (fun q => absurd (q.1.symm.trans c367) (by decide))]) | (rw [decide_eq_false (fun q => c376 q.2)])) _ _ h _ (lv_sub hl [0, 1, 2, 3, 4, 5, 6, 7] rfl)
                              · refine lv_aload_n hx hb dX7_readKey_370 rfl (lv_at hl 5 rfl) ?_
                                refine m_gi C h 54 (by decide) rfl rfl q1924 (v := nI ((kU5 lb).2.1)) rfl dX7_readKey_371 ?_
                                refine lv_aload_n hx hb dX7_readKey_374 rfl (lv_at hl 6 rfl) ?_
                                refine n_alen C h (List.mem_append_right _ (List.mem_append_left _ hoF)) dX7_readKey_375 ?_
                                refine n_icmp_ne (tgt := 383) hx hb (by omega) (by omega) dX7_readKey_376 (by decide) (fun c376 => ?_) (fun c376 => ?_)
                                · refine lv_iconst (v := nI 0) hx hb dX7_readKey_383 (by decide) ?_
                                  refine n_top (y := bZ false) rfl ?_
                                  exact jz false (by first | (rw [decide_eq_false (fun q => absurd (q.1.symm.trans c367) (by decide))]) | (rw [decide_eq_false (fun q => c376 q.2)])) _ _ h _ (lv_sub hl [0, 1, 2, 3, 4, 5, 6, 7] rfl)
                                · refine lv_iconst (v := nI 1) hx hb dX7_readKey_379 (by decide) ?_
                                  refine lv_goto (tgt := 384) hx hb dX7_readKey_380 (by decide) ?_
                                  refine n_top (y := bZ true) rfl ?_
                                  exact jz true (by rw [decide_eq_true ⟨c367, c376⟩]) _ _ h _ (lv_sub hl [0, 1, 2, 3, 4, 5, 6, 7] rfl)
                            · refine lv_aload_n hx hb dX7_readKey_217 rfl (lv_at hl 5 rfl) ?_
                              have h : Wd D B s (mw dA h0 ad (oM (yM M (nI ((kU5 lb).2.1)) (nI ((kU5 lb).2.1)) (bZ ((kU5 lb).2.2)) (lN ((kU2 lb).1)) (some q_kU4) (some q_kU5) none (some oa)) (nI (kU5 lb).2.1) (bZ (kU5 lb).2.2)) ++ (F ++ E_kU5)) H locs := by rw [oM_yM]; exact h
                              refine call_V (As := []) (rest := []) (n := 0) C h (c7_one l D dA B Z hZ h0 ad (yM M (nI ((kU5 lb).2.1)) (nI ((kU5 lb).2.1)) (bZ ((kU5 lb).2.2)) (lN ((kU2 lb).1)) (some q_kU4) (some q_kU5) none (some oa)) (F ++ E_kU5) oa lb (kU5 lb).2 rfl (List.mem_append_left _ hoF) hob hol hl_kU5) (lw_V q2221 q2223 qs61 q138 q2224) (by decide +kernel) (ci := 5) rfl rfl mw_mem0 (by decide) (by decide) rfl hl rfl (Nat.le_of_ble_eq_true rfl) dX7_readKey_218 (by omega) (fun _ H locs _ h => ?_)
                              rw [oM_yM] at h
                              have h : Wd D B s (mw dA h0 ad (yM M (nI ((kU5 lb).2.1)) (nI ((kS0 lb).2.1)) (bZ ((kS0 lb).2.2)) (lN ((kU2 lb).1)) (some q_kU4) (some q_kU5) none (some oa)) ++ (F ++ E_kU5)) H locs := h
                              show W p l e R s m args below meth c H locs (0 + 0 + 0 + 0 + 1 + 1 + 0 + 0 + 0) (0 + 0 + 0 + 0 + lb.length + lb.length + 0 + 0 + 0) Q (F0 m 221 ls [.int (nI ((kS0 lb).1))])
                              refine n_if_eq (tgt := 226) hx hb (by omega) dX7_readKey_221 (by decide) (fun c221 => ?_) (fun c221 => ?_)
                              · refine lv_aload_n hx hb dX7_readKey_226 rfl (lv_at hl 5 rfl) ?_
                                refine m_gi C h 54 (by decide) rfl rfl q1924 (v := nI ((kS0 lb).2.1)) rfl dX7_readKey_227 ?_
                                refine lv_istore (lv' := [(8, .int (nI ((kS0 lb).2.1))), (7, .int (bZ tjo)), (6, .int (bitsL (kE lb))), (5, .int (bitsL (kN lb))), (4, .int (bZ tjb)), (3, .int (bZ tja)), (0, .ref h0), (1, .ref oa), (2, .int (bZ hs))]) hx hb dX7_readKey_230 hl (by decide) rfl (fun ls hl => ?_)
                                refine lv_aload_n hx hb dX7_readKey_232 rfl (lv_at hl 6 rfl) ?_
                                refine lv_aload_n hx hb dX7_readKey_233 rfl (lv_at hl 6 rfl) ?_
                                have h : Wd D B s (mw dA h0 ad (oM (yM M (nI ((kU5 lb).2.1)) (nI ((kS0 lb).2.1)) (bZ ((kS0 lb).2.2)) (lN ((kU2 lb).1)) (some q_kU4) (some q_kU5) none (some oa)) (nI (kS0 lb).2.1) (bZ (kS0 lb).2.2)) ++ (F ++ E_kU5)) H locs := by rw [oM_yM]; exact h
                                refine call_V (As := []) (rest := [.ref h0]) (n := 0) C h (c7_numberOf l D dA B Z hZ h0 ad (yM M (nI ((kU5 lb).2.1)) (nI ((kS0 lb).2.1)) (bZ ((kS0 lb).2.2)) (lN ((kU2 lb).1)) (some q_kU4) (some q_kU5) none (some oa)) (F ++ E_kU5) oa lb (kS0 lb).2 rfl (List.mem_append_left _ hoF) hob hol hl_kS0) (lw_V q2229 q2231 qs63 q138 q2232) (by decide +kernel) (ci := 5) rfl rfl mw_mem0 (by decide) (by decide) rfl hl rfl (Nat.le_of_ble_eq_true rfl) dX7_readKey_234 (by omega) (fun q_kS1 H locs _ h => ?_)
                                rw [oM_yM, List.append_assoc] at h
                                obtain ⟨E_kS1, hE_kS1⟩ : ∃ z, z = E_kU5 ++ [(q_kS1, ial dA (kS1 lb).1)] := ⟨_, rfl⟩
                                have hm_kS1 : (q_kS1, ial dA (kSec lb)) ∈ E_kS1 := by rw [hE_kS1]; exact List.mem_append_right _ List.mem_cons_self
                                have hu_kS1 : ∀ z ∈ E_kU5, z ∈ E_kS1 := fun z hz => by rw [hE_kS1]; exact List.mem_append_left _ hz
                                have h : Wd D B s (mw dA h0 ad (yM M (nI ((kU5 lb).2.1)) (nI ((kS1 lb).2.1)) (bZ ((kS1 lb).2.2)) (lN ((kU2 lb).1)) (some q_kU4) (some q_kU5) none (some oa)) ++ (F ++ E_kS1)) H locs := by rw [hE_kS1]; exact h
                                refine m_pr C h 52 (v := some q_kS1) (by decide) rfl rfl rfl q1922 rfl rfl dX7_readKey_237 (fun H locs h => ?_)
                                rw [yM_52] at h
                                have h : Wd D B s (mw dA h0 ad (yM M (nI ((kU5 lb).2.1)) (nI ((kS1 lb).2.1)) (bZ ((kS1 lb).2.2)) (lN ((kU2 lb).1)) (some q_kU4) (some q_kU5) (some q_kS1) (some oa)) ++ (F ++ E_kS1)) H locs := h
                                refine lv_iconst (v := nI 0) hx hb dX7_readKey_240 (by decide) ?_
                                refine lv_istore (lv' := [(9, .int (nI 0)), (8, .int (nI ((kS0 lb).2.1))), (7, .int (bZ tjo)), (6, .int (bitsL (kE lb))), (5, .int (bitsL (kN lb))), (4, .int (bZ tjb)), (3, .int (bZ tja)), (0, .ref h0), (1, .ref oa), (2, .int (bZ hs))]) hx hb dX7_readKey_241 hl (by decide) rfl (fun ls hl => ?_)
                                refine lv_iload hx hb dX7_readKey_243 (lv_at hl 0 rfl) ?_
                                refine lv_iconst (v := nI 3) hx hb dX7_readKey_245 (by decide) ?_
                                refine n_icmp_ge (tgt := 261) hx hb (by omega) (by omega) dX7_readKey_246 (by decide) (fun c246 => by exfalso; omega) (fun c246 => ?_)
                                refine lv_aload_n hx hb dX7_readKey_249 rfl (lv_at hl 7 rfl) ?_
                                have h : Wd D B s (mw dA h0 ad (oM (yM M (nI ((kU5 lb).2.1)) (nI ((kS1 lb).2.1)) (bZ ((kS1 lb).2.2)) (lN ((kU2 lb).1)) (some q_kU4) (some q_kU5) (some q_kS1) (some oa)) (nI (kS1 lb).2.1) (bZ (kS1 lb).2.2)) ++ (F ++ E_kS1)) H locs := by rw [oM_yM]; exact h
                                refine call_V (As := []) (rest := []) (n := 0) C h (c7_numberOf l D dA B Z hZ h0 ad (yM M (nI ((kU5 lb).2.1)) (nI ((kS1 lb).2.1)) (bZ ((kS1 lb).2.2)) (lN ((kU2 lb).1)) (some q_kU4) (some q_kU5) (some q_kS1) (some oa)) (F ++ E_kS1) oa lb (kS1 lb).2 rfl (List.mem_append_left _ hoF) hob hol hl_kS1) (lw_V q2229 q2231 qs63 q138 q2232) (by decide +kernel) (ci := 5) rfl rfl mw_mem0 (by decide) (by decide) rfl hl rfl (Nat.le_of_ble_eq_true rfl) dX7_readKey_250 (by omega) (fun q_kS2 H locs _ h => ?_)
                                rw [oM_yM, List.append_assoc] at h
                                obtain ⟨E_kS2, hE_kS2⟩ : ∃ z, z = E_kS1 ++ [(q_kS2, ial dA (kS2 lb).1)] := ⟨_, rfl⟩
                                have hm_kS2 : (q_kS2, ial dA (kS2 lb).1) ∈ E_kS2 := by rw [hE_kS2]; exact List.mem_append_right _ List.mem_cons_self
                                have hu_kS2 : ∀ z ∈ E_kS1, z ∈ E_kS2 := fun z hz => by rw [hE_kS2]; exact List.mem_append_left _ hz
                                have h : Wd D B s (mw dA h0 ad (yM M (nI ((kU5 lb).2.1)) (nI ((kS2 lb).2.1)) (bZ ((kS2 lb).2.2)) (lN ((kU2 lb).1)) (some q_kU4) (some q_kU5) (some q_kS1) (some oa)) ++ (F ++ E_kS2)) H locs := by rw [hE_kS2]; exact h
                                refine lv_astore (lv' := [(10, .ref q_kS2), (9, .int (nI 0)), (8, .int (nI ((kS0 lb).2.1))), (7, .int (bZ tjo)), (6, .int (bitsL (kE lb))), (5, .int (bitsL (kN lb))), (4, .int (bZ tjb)), (3, .int (bZ tja)), (0, .ref h0), (1, .ref oa), (2, .int (bZ hs))]) hx hb dX7_readKey_253 hl (by decide) rfl (fun ls hl => ?_)
                                refine lv_iinc (v := nI 1) (lv' := [(9, .int (nI 1)), (10, .ref q_kS2), (8, .int (nI ((kS0 lb).2.1))), (7, .int (bZ tjo)), (6, .int (bitsL (kE lb))), (5, .int (bitsL (kN lb))), (4, .int (bZ tjb)), (3, .int (bZ tja)), (0, .ref h0), (1, .ref oa), (2, .int (bZ hs))]) hx hb dX7_readKey_255 hl (k := 1) rfl (by decide) (by decide) rfl (fun ls hl => ?_)
                                refine lv_goto (tgt := 243) hx hb dX7_readKey_258 (by decide) ?_
                                refine lv_iload hx hb dX7_readKey_243 (lv_at hl 0 rfl) ?_
                                refine lv_iconst (v := nI 3) hx hb dX7_readKey_245 (by decide) ?_
                                refine n_icmp_ge (tgt := 261) hx hb (by omega) (by omega) dX7_readKey_246 (by decide) (fun c246 => by exfalso; omega) (fun c246 => ?_)
                                refine lv_aload_n hx hb dX7_readKey_249 rfl (lv_at hl 8 rfl) ?_
                                have h : Wd D B s (mw dA h0 ad (oM (yM M (nI ((kU5 lb).2.1)) (nI ((kS2 lb).2.1)) (bZ ((kS2 lb).2.2)) (lN ((kU2 lb).1)) (some q_kU4) (some q_kU5) (some q_kS1) (some oa)) (nI (kS2 lb).2.1) (bZ (kS2 lb).2.2)) ++ (F ++ E_kS2)) H locs := by rw [oM_yM]; exact h
                                refine call_V (As := []) (rest := []) (n := 0) C h (c7_numberOf l D dA B Z hZ h0 ad (yM M (nI ((kU5 lb).2.1)) (nI ((kS2 lb).2.1)) (bZ ((kS2 lb).2.2)) (lN ((kU2 lb).1)) (some q_kU4) (some q_kU5) (some q_kS1) (some oa)) (F ++ E_kS2) oa lb (kS2 lb).2 rfl (List.mem_append_left _ hoF) hob hol hl_kS2) (lw_V q2229 q2231 qs63 q138 q2232) (by decide +kernel) (ci := 5) rfl rfl mw_mem0 (by decide) (by decide) rfl hl rfl (Nat.le_of_ble_eq_true rfl) dX7_readKey_250 (by omega) (fun q_kS3 H locs _ h => ?_)
                                rw [oM_yM, List.append_assoc] at h
                                obtain ⟨E_kS3, hE_kS3⟩ : ∃ z, z = E_kS2 ++ [(q_kS3, ial dA (kS3 lb).1)] := ⟨_, rfl⟩
                                have hm_kS3 : (q_kS3, ial dA (kS3 lb).1) ∈ E_kS3 := by rw [hE_kS3]; exact List.mem_append_right _ List.mem_cons_self
                                have hu_kS3 : ∀ z ∈ E_kS2, z ∈ E_kS3 := fun z hz => by rw [hE_kS3]; exact List.mem_append_left _ hz
                                have h : Wd D B s (mw dA h0 ad (yM M (nI ((kU5 lb).2.1)) (nI ((kS3 lb).2.1)) (bZ ((kS3 lb).2.2)) (lN ((kU2 lb).1)) (some q_kU4) (some q_kU5) (some q_kS1) (some oa)) ++ (F ++ E_kS3)) H locs := by rw [hE_kS3]; exact h
                                refine lv_astore (lv' := [(10, .ref q_kS3), (9, .int (nI 1)), (8, .int (nI ((kS0 lb).2.1))), (7, .int (bZ tjo)), (6, .int (bitsL (kE lb))), (5, .int (bitsL (kN lb))), (4, .int (bZ tjb)), (3, .int (bZ tja)), (0, .ref h0), (1, .ref oa), (2, .int (bZ hs))]) hx hb dX7_readKey_253 hl (by decide) rfl (fun ls hl => ?_)
                                refine lv_iinc (v := nI 2) (lv' := [(9, .int (nI 2)), (10, .ref q_kS3), (8, .int (nI ((kS0 lb).2.1))), (7, .int (bZ tjo)), (6, .int (bitsL (kE lb))), (5, .int (bitsL (kN lb))), (4, .int (bZ tjb)), (3, .int (bZ tja)), (0, .ref h0), (1, .ref oa), (2, .int (bZ hs))]) hx hb dX7_readKey_255 hl (k := 1) rfl (by decide) (by decide) rfl (fun ls hl => ?_)
                                refine lv_goto (tgt := 243) hx hb dX7_readKey_258 (by decide) ?_
                                refine lv_iload hx hb dX7_readKey_243 (lv_at hl 0 rfl) ?_
                                refine lv_iconst (v := nI 3) hx hb dX7_readKey_245 (by decide) ?_
                                refine n_icmp_ge (tgt := 261) hx hb (by omega) (by omega) dX7_readKey_246 (by decide) (fun c246 => by exfalso; omega) (fun c246 => ?_)
                                refine lv_aload_n hx hb dX7_readKey_249 rfl (lv_at hl 8 rfl) ?_
                                have h : Wd D B s (mw dA h0 ad (oM (yM M (nI ((kU5 lb).2.1)) (nI ((kS3 lb).2.1)) (bZ ((kS3 lb).2.2)) (lN ((kU2 lb).1)) (some q_kU4) (some q_kU5) (some q_kS1) (some oa)) (nI (kS3 lb).2.1) (bZ (kS3 lb).2.2)) ++ (F ++ E_kS3)) H locs := by rw [oM_yM]; exact h
                                refine call_V (As := []) (rest := []) (n := 0) C h (c7_numberOf l D dA B Z hZ h0 ad (yM M (nI ((kU5 lb).2.1)) (nI ((kS3 lb).2.1)) (bZ ((kS3 lb).2.2)) (lN ((kU2 lb).1)) (some q_kU4) (some q_kU5) (some q_kS1) (some oa)) (F ++ E_kS3) oa lb (kS3 lb).2 rfl (List.mem_append_left _ hoF) hob hol hl_kS3) (lw_V q2229 q2231 qs63 q138 q2232) (by decide +kernel) (ci := 5) rfl rfl mw_mem0 (by decide) (by decide) rfl hl rfl (Nat.le_of_ble_eq_true rfl) dX7_readKey_250 (by omega) (fun q_kS4 H locs _ h => ?_)
                                rw [oM_yM, List.append_assoc] at h
                                obtain ⟨E_kS4, hE_kS4⟩ : ∃ z, z = E_kS3 ++ [(q_kS4, ial dA (kS4 lb).1)] := ⟨_, rfl⟩
                                have hm_kS4 : (q_kS4, ial dA (kS4 lb).1) ∈ E_kS4 := by rw [hE_kS4]; exact List.mem_append_right _ List.mem_cons_self
                                have hu_kS4 : ∀ z ∈ E_kS3, z ∈ E_kS4 := fun z hz => by rw [hE_kS4]; exact List.mem_append_left _ hz
                                have h : Wd D B s (mw dA h0 ad (yM M (nI ((kU5 lb).2.1)) (nI ((kS4 lb).2.1)) (bZ ((kS4 lb).2.2)) (lN ((kU2 lb).1)) (some q_kU4) (some q_kU5) (some q_kS1) (some oa)) ++ (F ++ E_kS4)) H locs := by rw [hE_kS4]; exact h
                                refine lv_astore (lv' := [(10, .ref q_kS4), (9, .int (nI 2)), (8, .int (nI ((kS0 lb).2.1))), (7, .int (bZ tjo)), (6, .int (bitsL (kE lb))), (5, .int (bitsL (kN lb))), (4, .int (bZ tjb)), (3, .int (bZ tja)), (0, .ref h0), (1, .ref oa), (2, .int (bZ hs))]) hx hb dX7_readKey_253 hl (by decide) rfl (fun ls hl => ?_)
                                refine lv_iinc (v := nI 3) (lv' := [(9, .int (nI 3)), (10, .ref q_kS4), (8, .int (nI ((kS0 lb).2.1))), (7, .int (bZ tjo)), (6, .int (bitsL (kE lb))), (5, .int (bitsL (kN lb))), (4, .int (bZ tjb)), (3, .int (bZ tja)), (0, .ref h0), (1, .ref oa), (2, .int (bZ hs))]) hx hb dX7_readKey_255 hl (k := 1) rfl (by decide) (by decide) rfl (fun ls hl => ?_)
                                refine lv_goto (tgt := 243) hx hb dX7_readKey_258 (by decide) ?_
                                refine lv_iload hx hb dX7_readKey_243 (lv_at hl 0 rfl) ?_
                                refine lv_iconst (v := nI 3) hx hb dX7_readKey_245 (by decide) ?_
                                refine n_icmp_ge (tgt := 261) hx hb (by omega) (by omega) dX7_readKey_246 (by decide) (fun c246 => ?_) (fun c246 => by exfalso; omega)
                                refine lv_iconst (v := nI 0) hx hb dX7_readKey_261 (by decide) ?_
                                refine lv_istore (lv' := [(9, .int (nI 0)), (10, .ref q_kS4), (8, .int (nI ((kS0 lb).2.1))), (7, .int (bZ tjo)), (6, .int (bitsL (kE lb))), (5, .int (bitsL (kN lb))), (4, .int (bZ tjb)), (3, .int (bZ tja)), (0, .ref h0), (1, .ref oa), (2, .int (bZ hs))]) hx hb dX7_readKey_262 hl (by decide) rfl (fun ls hl => ?_)
                                refine lv_iload hx hb dX7_readKey_264 (lv_at hl 2 rfl) ?_
                                refine lv_istore (lv' := [(10, .int (nI ((kS0 lb).2.1))), (9, .int (nI 0)), (8, .int (nI ((kS0 lb).2.1))), (7, .int (bZ tjo)), (6, .int (bitsL (kE lb))), (5, .int (bitsL (kN lb))), (4, .int (bZ tjb)), (3, .int (bZ tja)), (0, .ref h0), (1, .ref oa), (2, .int (bZ hs))]) hx hb dX7_readKey_266 hl (by decide) rfl (fun ls hl => ?_)
                                have hb04 : (kS0 lb).2.1 ≤ (kS4 lb).2.1 := by
                                  have a1 := (numS_ok hob _ hl_kS0).2.2.2
                                  have a2 := (numS_ok hob _ hl_kS1).2.2.2
                                  have a3 := (numS_ok hob _ hl_kS2).2.2.2
                                  have a4 := (numS_ok hob _ hl_kS3).2.2.2
                                  exact Nat.le_trans a1 (Nat.le_trans a2 (Nat.le_trans a3 a4))
                                have hl : lv_has ls 12 [(10, .int (nI ((kS0 lb).2.1 + 0))), (9, .int (nI ((sl (gD lb) (kS0 lb).2.1 0).sum))), (8, .int (nI ((kS0 lb).2.1))), (7, .int (bZ tjo)), (6, .int (bitsL (kE lb))), (5, .int (bitsL (kN lb))), (4, .int (bZ tjb)), (3, .int (bZ tja)), (0, .ref h0), (1, .ref oa), (2, .int (bZ hs))] := lv_sub hl [0, 1, 2, 3, 4, 5, 6, 7, 8, 9, 10] rfl
                                have loopS : ∀ (nnS : Nat) (i : Nat), ((kS0 lb).2.1 + i ≤ (kS4 lb).2.1) → (kS4 lb).2.1 - ((kS0 lb).2.1 + i) < nnS → ∀ (H : Heap) (locs : List Loc), Wd D B s (mw dA h0 ad (yM M (nI ((kU5 lb).2.1)) (nI ((kS4 lb).2.1)) (bZ ((kS4 lb).2.2)) (lN ((kU2 lb).1)) (some q_kU4) (some q_kU5) (some q_kS1) (some oa)) ++ (F ++ E_kS4)) H locs → ∀ (ls : Array Slot), lv_has ls 12 [(10, .int (nI ((kS0 lb).2.1 + i))), (9, .int (nI ((sl (gD lb) (kS0 lb).2.1 i).sum))), (8, .int (nI ((kS0 lb).2.1))), (7, .int (bZ tjo)), (6, .int (bitsL (kE lb))), (5, .int (bitsL (kN lb))), (4, .int (bZ tjb)), (3, .int (bZ tja)), (0, .ref h0), (1, .ref oa), (2, .int (bZ hs))] → W p l e R s m args below meth c H locs (0 + 0 + 0 + 0 + 1 + 1 + 0 + 0 + 0 + 1 + 1 + 1 + 1) (0 + 0 + 0 + 0 + lb.length + lb.length + 0 + 0 + 0 + lb.length + lb.length + lb.length + lb.length) Q (F0 m 268 ls []) := by
                                  intro nnS
                                  induction nnS with
                                  | zero => intro i  hz0 hme; exact absurd hme (Nat.not_lt_zero _)
                                  | succ nnS ihS =>
                                    intro i  hz0 hme H locs h ls hl
                                    refine lv_iload hx hb dX7_readKey_268 (lv_at hl 0 rfl) ?_
                                    refine lv_aload_n hx hb dX7_readKey_270 rfl (lv_at hl 8 rfl) ?_
                                    refine m_gi C h 54 (by decide) rfl rfl q1924 (v := nI ((kS4 lb).2.1)) rfl dX7_readKey_271 ?_
                                    refine n_icmp_ge (tgt := 292) hx hb (by omega) (by omega) dX7_readKey_274 (by decide) (fun c274 => ?_) (fun c274 => ?_)
                                    · have hss : (sl (gD lb) (kS0 lb).2.1 i).sum = kSum lb := by unfold kSum; rw [show i = (kS4 lb).2.1 - (kS0 lb).2.1 by omega]
                                      have hsl9 : kSum lb ≤ 256 * 5000 := by
                                        rw [← hss]; exact Nat.le_trans (sl_sum_le hob _ _) (Nat.mul_le_mul_left _ (by omega))
                                      rw [hss] at hl
                                      refine lv_aload_n hx hb dX7_readKey_292 rfl (lv_at hl 8 rfl) ?_
                                      refine lv_iconst (v := nI 2) hx hb dX7_readKey_293 (by decide) ?_
                                      have h : Wd D B s (mw dA h0 ad (oM (yM M (nI ((kU5 lb).2.1)) (nI ((kS4 lb).2.1)) (bZ ((kS4 lb).2.2)) (lN ((kU2 lb).1)) (some q_kU4) (some q_kU5) (some q_kS1) (some oa)) (nI (kS4 lb).2.1) (bZ (kS4 lb).2.2)) ++ (F ++ E_kS4)) H locs := by rw [oM_yM]; exact h
                                      refine call_V (As := [.int (nI 2)]) (rest := []) (n := 1) C h (c7_some l D dA B Z hZ h0 ad (yM M (nI ((kU5 lb).2.1)) (nI ((kS4 lb).2.1)) (bZ ((kS4 lb).2.2)) (lN ((kU2 lb).1)) (some q_kU4) (some q_kU5) (some q_kS1) (some oa)) (F ++ E_kS4) oa lb (kS4 lb).2 2 rfl (List.mem_append_left _ hoF) hob hol hl_kS4 (by decide)) (lw_V q2225 q2227 qs62 q138 q2228) (by decide +kernel) (ci := 5) rfl rfl mw_mem0 (by decide) (by decide) rfl hl rfl (Nat.le_of_ble_eq_true rfl) dX7_readKey_294 (by omega) (fun _ H locs _ h => ?_)
                                      rw [oM_yM] at h
                                      have h : Wd D B s (mw dA h0 ad (yM M (nI ((kU5 lb).2.1)) (nI ((kS5 lb).2.1)) (bZ ((kS5 lb).2.2)) (lN ((kU2 lb).1)) (some q_kU4) (some q_kU5) (some q_kS1) (some oa)) ++ (F ++ E_kS4)) H locs := h
                                      show W p l e R s m args below meth c H locs (0 + 0 + 0 + 0 + 1 + 1 + 0 + 0 + 0 + 1 + 1 + 1 + 1 + 0) (0 + 0 + 0 + 0 + lb.length + lb.length + 0 + 0 + 0 + lb.length + lb.length + lb.length + lb.length + 0) Q (F0 m 297 ls [.long (lN ((kS5 lb).1))])
                                      refine lv_lstore (lv' := [(10, .long (lN ((kS5 lb).1))), (9, .int (nI (kSum lb))), (8, .int (nI ((kS0 lb).2.1))), (7, .int (bZ tjo)), (6, .int (bitsL (kE lb))), (5, .int (bitsL (kN lb))), (4, .int (bZ tjb)), (3, .int (bZ tja)), (0, .ref h0), (1, .ref oa), (2, .int (bZ hs))]) hx hb dX7_readKey_297 hl (by decide) rfl (fun ls hl => ?_)
                                      refine lv_aload_n hx hb dX7_readKey_299 rfl (lv_at hl 8 rfl) ?_
                                      have jx : ∀ (H : Heap) (locs : List Loc), Wd D B s (mw dA h0 ad (yM M (nI ((kU5 lb).2.1)) (nI ((kS5 lb).2.1)) (bZ ((kS5 lb).2.2)) (lN ((kU2 lb).1)) (some q_kU4) (some q_kU5) (some q_kS1) (some oa)) ++ (F ++ E_kS4)) H locs → ∀ (ls : Array Slot), lv_has ls 12 [(10, .long (lN ((kS5 lb).1))), (9, .int (nI (kSum lb))), (8, .int (nI ((kS0 lb).2.1))), (7, .int (bZ tjo)), (6, .int (bitsL (kE lb))), (5, .int (bitsL (kN lb))), (4, .int (bZ tjb)), (3, .int (bZ tja)), (0, .ref h0), (1, .ref oa), (2, .int (bZ hs))] → W p l e R s m args below meth c H locs (0 + 0 + 0 + 0 + 1 + 1 + 0 + 0 + 0 + 1 + 1 + 1 + 1 + 0) (0 + 0 + 0 + 0 + lb.length + lb.length + 0 + 0 + 0 + lb.length + lb.length + lb.length + lb.length + 0) Q (F0 m 324 ls [.int (bZ ((kS5 lb).2.2 && decide ((kS5 lb).1 = kSum lb % 65536))), .ref h0]) := by
                                        intro   H locs h ls hl
                                        refine m_pi C h 55 (v := bZ ((kS5 lb).2.2 && decide ((kS5 lb).1 = kSum lb % 65536))) (by decide) rfl rfl rfl q1925 (bZ_nar _) (bZ_fit _) dX7_readKey_324 (fun H locs h => ?_)
                                        rw [yM_55] at h
                                        have h : Wd D B s (mw dA h0 ad (yM M (nI ((kU5 lb).2.1)) (nI ((kS5 lb).2.1)) (bZ ((kS5 lb).2.2 && decide ((kS5 lb).1 = kSum lb % 65536))) (lN ((kU2 lb).1)) (some q_kU4) (some q_kU5) (some q_kS1) (some oa)) ++ (F ++ E_kS4)) H locs := h
                                        refine lv_aload_n hx hb dX7_readKey_327 rfl (lv_at hl 8 rfl) ?_
                                        have jy : ∀ (H : Heap) (locs : List Loc), Wd D B s (mw dA h0 ad (yM M (nI ((kU5 lb).2.1)) (nI ((kS5 lb).2.1)) (bZ ((kS5 lb).2.2 && decide ((kS5 lb).1 = kSum lb % 65536))) (lN ((kU2 lb).1)) (some q_kU4) (some q_kU5) (some q_kS1) (some oa)) ++ (F ++ E_kS4)) H locs → ∀ (ls : Array Slot), lv_has ls 12 [(10, .long (lN ((kS5 lb).1))), (9, .int (nI (kSum lb))), (8, .int (nI ((kS0 lb).2.1))), (7, .int (bZ tjo)), (6, .int (bitsL (kE lb))), (5, .int (bitsL (kN lb))), (4, .int (bZ tjb)), (3, .int (bZ tja)), (0, .ref h0), (1, .ref oa), (2, .int (bZ hs))] → W p l e R s m args below meth c H locs (0 + 0 + 0 + 0 + 1 + 1 + 0 + 0 + 0 + 1 + 1 + 1 + 1 + 0) (0 + 0 + 0 + 0 + lb.length + lb.length + 0 + 0 + 0 + lb.length + lb.length + lb.length + lb.length + 0) Q (F0 m 360 ls [.int (bZ (((kS5 lb).2.2 && decide ((kS5 lb).1 = kSum lb % 65536)) && (decide ((kSec lb).length = 0) || !decide (bitsL (kN lb) < bitsL (kSec lb))))), .ref h0]) := by
                                          intro   H locs h ls hl
                                          refine m_pi C h 55 (v := bZ (((kS5 lb).2.2 && decide ((kS5 lb).1 = kSum lb % 65536)) && (decide ((kSec lb).length = 0) || !decide (bitsL (kN lb) < bitsL (kSec lb))))) (by decide) rfl rfl rfl q1925 (bZ_nar _) (bZ_fit _) dX7_readKey_360 (fun H locs h => ?_)
                                          rw [yM_55] at h
                                          have h : Wd D B s (mw dA h0 ad (yM M (nI ((kU5 lb).2.1)) (nI ((kS5 lb).2.1)) (bZ (((kS5 lb).2.2 && decide ((kS5 lb).1 = kSum lb % 65536)) && (decide ((kSec lb).length = 0) || !decide (bitsL (kN lb) < bitsL (kSec lb))))) (lN ((kU2 lb).1)) (some q_kU4) (some q_kU5) (some q_kS1) (some oa)) ++ (F ++ E_kS4)) H locs := h
                                          have jz : ∀ (tjz : Bool), (tjz = decide ((((kS5 lb).2.2 && decide ((kS5 lb).1 = kSum lb % 65536)) && (decide ((kSec lb).length = 0) || !decide (bitsL (kN lb) < bitsL (kSec lb)))) = true ∧ (kS5 lb).2.1 = lb.length)) → ∀ (H : Heap) (locs : List Loc), Wd D B s (mw dA h0 ad (yM M (nI ((kU5 lb).2.1)) (nI ((kS5 lb).2.1)) (bZ (((kS5 lb).2.2 && decide ((kS5 lb).1 = kSum lb % 65536)) && (decide ((kSec lb).length = 0) || !decide (bitsL (kN lb) < bitsL (kSec lb))))) (lN ((kU2 lb).1)) (some q_kU4) (some q_kU5) (some q_kS1) (some oa)) ++ (F ++ E_kS4)) H locs → ∀ (ls : Array Slot), lv_has ls 12 [(10, .long (lN ((kS5 lb).1))), (9, .int (nI (kSum lb))), (8, .int (nI ((kS0 lb).2.1))), (7, .int (bZ tjo)), (6, .int (bitsL (kE lb))), (5, .int (bitsL (kN lb))), (4, .int (bZ tjb)), (3, .int (bZ tja)), (0, .ref h0), (1, .ref oa), (2, .int (bZ hs))] → W p l e R s m args below meth c H locs (0 + 0 + 0 + 0 + 1 + 1 + 0 + 0 + 0 + 1 + 1 + 1 + 1 + 0) (0 + 0 + 0 + 0 + lb.length + lb.length + 0 + 0 + 0 + lb.length + lb.length + lb.length + lb.length + 0) Q (F0 m 384 ls [.int (bZ tjz)]) := by
                                            intro tjz  hjz H locs h ls hl
                                            subst hQ
                                            have e2 : (kU1 lb).1 = 4 := of_decide_eq_true (hja ▸ c85)
                                            have e3 : (kU3 lb).1 = 1 := of_decide_eq_true (hjb ▸ c90)
                                            have o7 : gD (kN lb) ((kN lb).length - 1) % 2 = 1 ∧ gD (kE lb) ((kE lb).length - 1) % 2 = 1 := of_decide_eq_true (hjo ▸ c203)
                                            have hko : keyOk lb hs = tjz := by
                                              unfold keyOk kHead kNums kSize
                                              rw [decide_eq_true e2, decide_eq_true e3, decide_eq_true c98, decide_eq_true c106, c81, decide_eq_false c177, decide_eq_false c185, decide_eq_false c191, decide_eq_false c198, decide_eq_true o7.1, decide_eq_true o7.2]
                                              unfold kSecOk
                                              rw [if_pos c214, decide_eq_true c221, hjz, Bool.decide_and, Bool.decide_eq_true]
                                              rfl
                                            exact ret_z C hr hlocks h (nI ((kU5 lb).2.1), nI ((kS5 lb).2.1), bZ (((kS5 lb).2.2 && decide ((kS5 lb).1 = kSum lb % 65536)) && (decide ((kSec lb).length = 0) || !decide (bitsL (kN lb) < bitsL (kSec lb)))), lN ((kU2 lb).1), some q_kU4, some q_kU5, some q_kS1, E_kS4) (fun _ => ⟨rfl, rfl, ⟨_, rfl, hu_kS4 _ (hu_kS3 _ (hu_kS2 _ (hu_kS1 _ (hu_kU5 _ (hm_kU4)))))⟩, ⟨_, rfl, hu_kS4 _ (hu_kS3 _ (hu_kS2 _ (hu_kS1 _ (hm_kU5))))⟩, by rw [if_pos c214]; exact ⟨_, rfl, hu_kS4 _ (hu_kS3 _ (hu_kS2 _ (hm_kS1)))⟩⟩) (by rw [hko]) rfl (by omega) (by omega) dX7_readKey_384
                                          refine lv_aload_n hx hb dX7_readKey_363 rfl (lv_at hl 8 rfl) ?_
                                          refine m_gi C h 55 (by decide) rfl rfl q1925 (v := bZ (((kS5 lb).2.2 && decide ((kS5 lb).1 = kSum lb % 65536)) && (decide ((kSec lb).length = 0) || !decide (bitsL (kN lb) < bitsL (kSec lb))))) rfl dX7_readKey_364 ?_
                                          refine z_if_eq (tgt := 383) hx hb dX7_readKey_367 (by decide) (fun c367 => ?_) (fun c367 => ?_)
                                          · refine lv_iconst (v := nI 0) hx hb dX7_readKey_383 (by decide) ?_
                                            refine n_top (y := bZ false) rfl ?_
                                            exact jz false (by first | (rw [decide_eq_false (fun q => absurd (q.1.symm.trans c367) (by decide))]) | (rw [decide_eq_false (fun q => c376 q.2)])) _ _ h _ (lv_sub hl [0, 1, 2, 3, 4, 5, 6, 7, 8, 9, 10] rfl)
                                          · refine lv_aload_n hx hb dX7_readKey_370 rfl (lv_at hl 8 rfl) ?_
                                            refine m_gi C h 54 (by decide) rfl rfl q1924 (v := nI ((kS5 lb).2.1)) rfl dX7_readKey_371 ?_
                                            refine lv_aload_n hx hb dX7_readKey_374 rfl (lv_at hl 9 rfl) ?_
                                            refine n_alen C h (List.mem_append_right _ (List.mem_append_left _ hoF)) dX7_readKey_375 ?_
                                            refine n_icmp_ne (tgt := 383) hx hb (by omega) (by omega) dX7_readKey_376 (by decide) (fun c376 => ?_) (fun c376 => ?_)
                                            · refine lv_iconst (v := nI 0) hx hb dX7_readKey_383 (by decide) ?_
                                              refine n_top (y := bZ false) rfl ?_
                                              exact jz false (by first | (rw [decide_eq_false (fun q => absurd (q.1.symm.trans c367) (by decide))]) | (rw [decide_eq_false (fun q => c376 q.2)])) _ _ h _ (lv_sub hl [0, 1, 2, 3, 4, 5, 6, 7, 8, 9, 10] rfl)
                                            · refine lv_iconst (v := nI 1) hx hb dX7_readKey_379 (by decide) ?_
                                              refine lv_goto (tgt := 384) hx hb dX7_readKey_380 (by decide) ?_
                                              refine n_top (y := bZ true) rfl ?_
                                              exact jz true (by rw [decide_eq_true ⟨c367, c376⟩]) _ _ h _ (lv_sub hl [0, 1, 2, 3, 4, 5, 6, 7, 8, 9, 10] rfl)
                                        refine lv_aload_n hx hb dX7_readKey_328 rfl (lv_at hl 8 rfl) ?_
                                        refine m_gi C h 55 (by decide) rfl rfl q1925 (v := bZ ((kS5 lb).2.2 && decide ((kS5 lb).1 = kSum lb % 65536))) rfl dX7_readKey_329 ?_
                                        refine z_if_eq (tgt := 359) hx hb dX7_readKey_332 (by decide) (fun c332 => ?_) (fun c332 => ?_)
                                        · refine lv_iconst (v := nI 0) hx hb dX7_readKey_359 (by decide) ?_
                                          refine n_top (y := bZ (((kS5 lb).2.2 && decide ((kS5 lb).1 = kSum lb % 65536)) && (decide ((kSec lb).length = 0) || !decide (bitsL (kN lb) < bitsL (kSec lb))))) (by simp [*]; try (first | rfl | (rw [decide_eq_true c352]; rfl) | (rw [decide_eq_false c352]; rfl))) ?_
                                          exact jy   _ _ h _ (lv_sub hl [0, 1, 2, 3, 4, 5, 6, 7, 8, 9, 10] rfl)
                                        · refine lv_aload_n hx hb dX7_readKey_335 rfl (lv_at hl 8 rfl) ?_
                                          refine m_gr C h 52 (by decide) rfl rfl q1922 (v := some q_kS1) rfl dX7_readKey_336 ?_
                                          refine n_alen C h (List.mem_append_right _ (List.mem_append_right _ (hu_kS4 _ (hu_kS3 _ (hu_kS2 _ (hm_kS1)))))) dX7_readKey_339 ?_
                                          refine n_if_eq (tgt := 355) hx hb (by omega) dX7_readKey_340 (by decide) (fun c340 => ?_) (fun c340 => ?_)
                                          · refine lv_iconst (v := nI 1) hx hb dX7_readKey_355 (by decide) ?_
                                            refine lv_goto (tgt := 360) hx hb dX7_readKey_356 (by decide) ?_
                                            refine n_top (y := bZ (((kS5 lb).2.2 && decide ((kS5 lb).1 = kSum lb % 65536)) && (decide ((kSec lb).length = 0) || !decide (bitsL (kN lb) < bitsL (kSec lb))))) (by simp [*]; try (first | rfl | (rw [decide_eq_true c352]; rfl) | (rw [decide_eq_false c352]; rfl))) ?_
                                            exact jy   _ _ h _ (lv_sub hl [0, 1, 2, 3, 4, 5, 6, 7, 8, 9, 10] rfl)
                                          · refine lv_aload_n hx hb dX7_readKey_343 rfl (lv_at hl 8 rfl) ?_
                                            refine m_gr C h 52 (by decide) rfl rfl q1922 (v := some q_kS1) rfl dX7_readKey_344 ?_
                                            refine call_S (As := [.ref q_kS1]) (rest := [.ref h0]) (n := 1) C h (c7_bitsOf l D dA B Z hZ _ q_kS1 (kSec lb).length (gD (kSec lb)) (List.mem_append_right _ (List.mem_append_right _ (hu_kS4 _ (hu_kS3 _ (hu_kS2 _ (hm_kS1)))))) (by omega) (by omega) (byt_gD hb_kSec 0)) (lw_S q2233 q2234 q138 q2235) (by decide +kernel) (by decide) (by decide) rfl hl rfl (Nat.le_of_ble_eq_true rfl) dX7_readKey_347 (by omega) (fun _ H locs _ h => ?_)
                                            show W p l e R s m args below meth c H locs (0 + 0 + 0 + 0 + 1 + 1 + 0 + 0 + 0 + 1 + 1 + 1 + 1 + 0 + 0) (0 + 0 + 0 + 0 + lb.length + lb.length + 0 + 0 + 0 + lb.length + lb.length + lb.length + lb.length + 0 + 0) Q (F0 m 350 ls [.int (bitsL (kSec lb)), .ref h0])
                                            refine lv_iload hx hb dX7_readKey_350 (lv_at hl 5 rfl) ?_
                                            refine lv_icmp_gt (tgt := 359) hx hb dX7_readKey_352 (by decide) (fun c352 => ?_) (fun c352 => ?_)
                                            · refine lv_iconst (v := nI 0) hx hb dX7_readKey_359 (by decide) ?_
                                              refine n_top (y := bZ (((kS5 lb).2.2 && decide ((kS5 lb).1 = kSum lb % 65536)) && (decide ((kSec lb).length = 0) || !decide (bitsL (kN lb) < bitsL (kSec lb))))) (by simp [*]; try (first | rfl | (rw [decide_eq_true c352]; rfl) | (rw [decide_eq_false c352]; rfl))) ?_
                                              exact jy   _ _ h _ (lv_sub hl [0, 1, 2, 3, 4, 5, 6, 7, 8, 9, 10] rfl)
                                            · refine lv_iconst (v := nI 1) hx hb dX7_readKey_355 (by decide) ?_
                                              refine lv_goto (tgt := 360) hx hb dX7_readKey_356 (by decide) ?_
                                              refine n_top (y := bZ (((kS5 lb).2.2 && decide ((kS5 lb).1 = kSum lb % 65536)) && (decide ((kSec lb).length = 0) || !decide (bitsL (kN lb) < bitsL (kSec lb))))) (by simp [*]; try (first | rfl | (rw [decide_eq_true c352]; rfl) | (rw [decide_eq_false c352]; rfl))) ?_
                                              exact jy   _ _ h _ (lv_sub hl [0, 1, 2, 3, 4, 5, 6, 7, 8, 9, 10] rfl)
                                      refine lv_aload_n hx hb dX7_readKey_300 rfl (lv_at hl 8 rfl) ?_
                                      refine m_gi C h 55 (by decide) rfl rfl q1925 (v := bZ ((kS5 lb).2.2)) rfl dX7_readKey_301 ?_
                                      refine z_if_eq (tgt := 323) hx hb dX7_readKey_304 (by decide) (fun c304 => ?_) (fun c304 => ?_)
                                      · refine lv_iconst (v := nI 0) hx hb dX7_readKey_323 (by decide) ?_
                                        refine n_top (y := bZ ((kS5 lb).2.2 && decide ((kS5 lb).1 = kSum lb % 65536))) (by simp [*]; try (first | rfl | (rw [decide_eq_true c352]; rfl) | (rw [decide_eq_false c352]; rfl))) ?_
                                        exact jx   _ _ h _ (lv_sub hl [0, 1, 2, 3, 4, 5, 6, 7, 8, 9, 10] rfl)
                                      · refine lv_lload hx hb dX7_readKey_307 (lv_at hl 0 rfl) ?_
                                        refine lv_iload hx hb dX7_readKey_309 (lv_at hl 1 rfl) ?_
                                        refine lv_ldc hx hb hown (hts _ q2173) dX7_readKey_311 ?_
                                        refine n_top (y := nI 65536) (by decide) ?_
                                        refine lv_irem hx hb dX7_readKey_313 (by decide) (n_top (y := nI ((kSum lb) % 65536)) (pk_rem (by omega) (by omega) (by omega)) ?_)
                                        refine lv_i2l (v := lN ((kSum lb) % 65536)) hx hb dX7_readKey_314 (nI_l (by omega)) ?_
                                        refine n_lcmp_ne (tgt := 323) hx hb (by omega) (by omega) dX7_readKey_315 dX7_readKey_316 (by decide) (fun c315 => ?_) (fun c315 => ?_)
                                        · refine lv_iconst (v := nI 0) hx hb dX7_readKey_323 (by decide) ?_
                                          refine n_top (y := bZ ((kS5 lb).2.2 && decide ((kS5 lb).1 = kSum lb % 65536))) (by simp [*]; try (first | rfl | (rw [decide_eq_true c352]; rfl) | (rw [decide_eq_false c352]; rfl))) ?_
                                          exact jx   _ _ h _ (lv_sub hl [0, 1, 2, 3, 4, 5, 6, 7, 8, 9, 10] rfl)
                                        · refine lv_iconst (v := nI 1) hx hb dX7_readKey_319 (by decide) ?_
                                          refine lv_goto (tgt := 324) hx hb dX7_readKey_320 (by decide) ?_
                                          refine n_top (y := bZ ((kS5 lb).2.2 && decide ((kS5 lb).1 = kSum lb % 65536))) (by simp [*]; try (first | rfl | (rw [decide_eq_true c352]; rfl) | (rw [decide_eq_false c352]; rfl))) ?_
                                          exact jx   _ _ h _ (lv_sub hl [0, 1, 2, 3, 4, 5, 6, 7, 8, 9, 10] rfl)
                                    · refine lv_iload hx hb dX7_readKey_277 (lv_at hl 1 rfl) ?_
                                      refine lv_aload_n hx hb dX7_readKey_279 rfl (lv_at hl 9 rfl) ?_
                                      refine lv_iload hx hb dX7_readKey_280 (lv_at hl 0 rfl) ?_
                                      refine n_iald C h (v := (gD lb) ((kS0 lb).2.1 + i)) (List.mem_append_right _ (List.mem_append_left _ hoF)) (show (kS0 lb).2.1 + i < lb.length by omega) (by omega) rfl dX7_readKey_282 ?_
                                      refine lv_iadd hx hb dX7_readKey_283 ?_
                                      refine n_top (y := nI ((sl (gD lb) (kS0 lb).2.1 (i + 1)).sum)) (by rw [nI_add, sl_succ]; simp) ?_
                                      refine lv_istore (lv' := [(9, .int (nI ((sl (gD lb) (kS0 lb).2.1 (i + 1)).sum))), (10, .int (nI ((kS0 lb).2.1 + i))), (8, .int (nI ((kS0 lb).2.1))), (7, .int (bZ tjo)), (6, .int (bitsL (kE lb))), (5, .int (bitsL (kN lb))), (4, .int (bZ tjb)), (3, .int (bZ tja)), (0, .ref h0), (1, .ref oa), (2, .int (bZ hs))]) hx hb dX7_readKey_284 hl (by decide) rfl (fun ls hl => ?_)
                                      refine lv_iinc (v := nI (((kS0 lb).2.1 + i) + 1)) (lv' := [(10, .int (nI (((kS0 lb).2.1 + i) + 1))), (9, .int (nI ((sl (gD lb) (kS0 lb).2.1 (i + 1)).sum))), (8, .int (nI ((kS0 lb).2.1))), (7, .int (bZ tjo)), (6, .int (bitsL (kE lb))), (5, .int (bitsL (kN lb))), (4, .int (bZ tjb)), (3, .int (bZ tja)), (0, .ref h0), (1, .ref oa), (2, .int (bZ hs))]) hx hb dX7_readKey_286 hl (k := 1) rfl (nI_add ((kS0 lb).2.1 + i) 1) (by decide) rfl (fun ls hl => ?_)
                                      refine lv_goto (tgt := 268) hx hb dX7_readKey_289 (by decide) ?_
                                      exact ihS (i + 1) (by omega) (by omega) _ _ h _ (lv_sub hl [0, 1, 2, 3, 4, 5, 6, 7, 8, 9, 10] rfl)
                                exact loopS _ 0 (by omega) (Nat.lt_succ_self _) _ _ h _ (lv_sub hl [0, 1, 2, 3, 4, 5, 6, 7, 8, 9, 10] rfl)
                              · refine lv_iconst (v := nI 0) hx hb dX7_readKey_224 (by decide) ?_
                                subst hQ
                                have hko : keyOk lb hs = false := by
                                  cases hq : keyOk lb hs with
                                  | false => rfl
                                  | true =>
                                    exfalso
                                    unfold keyOk kHead kNums at hq
                                    simp only [Bool.and_eq_true, decide_eq_true_eq, Bool.not_eq_true', decide_eq_false_iff_not] at hq
                                    obtain ⟨⟨⟨⟨⟨⟨e1, e2⟩, e3⟩, e4⟩, e5⟩, ⟨⟨⟨⟨f1, f2⟩, f3⟩, f4⟩, f5⟩⟩, e7⟩ := hq
                                    rw [if_pos c214] at e7
                                    unfold kSecOk at e7
                                    simp only [Bool.and_eq_true, decide_eq_true_eq] at e7
                                    exact c221 e7.1.1
                                refine n_top (y := bZ false) rfl ?_
                                exact ret_z C hr hlocks h (nI ((kU5 lb).2.1), nI ((kS0 lb).2.1), bZ ((kS0 lb).2.2), lN ((kU2 lb).1), some q_kU4, some q_kU5, none, E_kU5) (fun hk => by rw [hko] at hk; cases hk) (by rw [hko]) rfl (by omega) (by omega) dX7_readKey_225
                          · refine lv_iconst (v := nI 0) hx hb dX7_readKey_206 (by decide) ?_
                            subst hQ
                            have hko : keyOk lb hs = false := by
                              cases hq : keyOk lb hs with
                              | false => rfl
                              | true =>
                                exfalso
                                unfold keyOk kHead kNums at hq
                                simp only [Bool.and_eq_true, decide_eq_true_eq, Bool.not_eq_true', decide_eq_false_iff_not] at hq
                                obtain ⟨⟨⟨⟨⟨⟨e1, e2⟩, e3⟩, e4⟩, e5⟩, ⟨⟨⟨⟨f1, f2⟩, f3⟩, f4⟩, f5⟩⟩, e7⟩ := hq
                                first
                                  | exact f1 c177
                                  | exact f2 c185
                                  | exact f3 c191
                                  | exact f4 c198
                                  | exact absurd ((decide_eq_true f5).symm.trans (hjo.symm.trans c203)) (by decide)
                            refine n_top (y := bZ false) rfl ?_
                            exact ret_z C hr hlocks h (nI ((kU5 lb).2.1), nI ((kU5 lb).2.1), bZ ((kU5 lb).2.2), lN ((kU2 lb).1), some q_kU4, some q_kU5, mR M 52, E_kU5) (fun hk => by rw [hko] at hk; cases hk) (by rw [hko]) rfl (by omega) (by omega) dX7_readKey_207
                refine lv_aload_n hx hb dX7_readKey_129 rfl (lv_at hl 4 rfl) ?_
                refine m_gr C h 50 (by decide) rfl rfl q1920 (v := some q_kU4) rfl dX7_readKey_130 ?_
                refine lv_aload_n hx hb dX7_readKey_133 rfl (lv_at hl 4 rfl) ?_
                refine m_gr C h 50 (by decide) rfl rfl q1920 (v := some q_kU4) rfl dX7_readKey_134 ?_
                refine n_alen C h (List.mem_append_right _ (List.mem_append_right _ (hu_kU5 _ (hm_kU4)))) dX7_readKey_137 ?_
                refine lv_iconst (v := nI 1) hx hb dX7_readKey_138 (by decide) ?_
                refine lv_isub hx hb dX7_readKey_139 (n_top (y := nI (((kN lb).length) - 1)) (pk_sub (by omega)) ?_)
                refine n_iald C h (v := (gD (kN lb)) (((kN lb).length) - 1)) (List.mem_append_right _ (List.mem_append_right _ (hu_kU5 _ (hm_kU4)))) (show ((kN lb).length) - 1 < (kN lb).length by omega) (by omega) rfl dX7_readKey_140 ?_
                refine lv_iconst (v := nI 2) hx hb dX7_readKey_141 (by decide) ?_
                refine lv_irem hx hb dX7_readKey_142 (by decide) (n_top (y := nI (((gD (kN lb)) (((kN lb).length) - 1)) % 2)) (pk_rem (by omega) (by omega) (by omega)) ?_)
                refine lv_iconst (v := nI 1) hx hb dX7_readKey_143 (by decide) ?_
                refine n_icmp_ne (tgt := 169) hx hb (by omega) (by omega) dX7_readKey_144 (by decide) (fun c144 => ?_) (fun c144 => ?_)
                · refine lv_iconst (v := nI 0) hx hb dX7_readKey_169 (by decide) ?_
                  refine n_top (y := bZ false) rfl ?_
                  exact jo false (by simp [*]) _ _ h _ (lv_sub hl [0, 1, 2, 3, 4, 5, 6] rfl)
                · refine lv_aload_n hx hb dX7_readKey_147 rfl (lv_at hl 4 rfl) ?_
                  refine m_gr C h 51 (by decide) rfl rfl q1921 (v := some q_kU5) rfl dX7_readKey_148 ?_
                  refine lv_aload_n hx hb dX7_readKey_151 rfl (lv_at hl 4 rfl) ?_
                  refine m_gr C h 51 (by decide) rfl rfl q1921 (v := some q_kU5) rfl dX7_readKey_152 ?_
                  refine n_alen C h (List.mem_append_right _ (List.mem_append_right _ (hm_kU5))) dX7_readKey_155 ?_
                  refine lv_iconst (v := nI 1) hx hb dX7_readKey_156 (by decide) ?_
                  refine lv_isub hx hb dX7_readKey_157 (n_top (y := nI (((kE lb).length) - 1)) (pk_sub (by omega)) ?_)
                  refine n_iald C h (v := (gD (kE lb)) (((kE lb).length) - 1)) (List.mem_append_right _ (List.mem_append_right _ (hm_kU5))) (show ((kE lb).length) - 1 < (kE lb).length by omega) (by omega) rfl dX7_readKey_158 ?_
                  refine lv_iconst (v := nI 2) hx hb dX7_readKey_159 (by decide) ?_
                  refine lv_irem hx hb dX7_readKey_160 (by decide) (n_top (y := nI (((gD (kE lb)) (((kE lb).length) - 1)) % 2)) (pk_rem (by omega) (by omega) (by omega)) ?_)
                  refine lv_iconst (v := nI 1) hx hb dX7_readKey_161 (by decide) ?_
                  refine n_icmp_ne (tgt := 169) hx hb (by omega) (by omega) dX7_readKey_162 (by decide) (fun c162 => ?_) (fun c162 => ?_)
                  · refine lv_iconst (v := nI 0) hx hb dX7_readKey_169 (by decide) ?_
                    refine n_top (y := bZ false) rfl ?_
                    exact jo false (by simp [*]) _ _ h _ (lv_sub hl [0, 1, 2, 3, 4, 5, 6] rfl)
                  · refine lv_iconst (v := nI 1) hx hb dX7_readKey_165 (by decide) ?_
                    refine lv_goto (tgt := 170) hx hb dX7_readKey_166 (by decide) ?_
                    refine n_top (y := bZ true) rfl ?_
                    exact jo true (by simp [*]) _ _ h _ (lv_sub hl [0, 1, 2, 3, 4, 5, 6] rfl)
              · refine lv_iconst (v := nI 0) hx hb dX7_readKey_109 (by decide) ?_
                subst hQ
                have hko : keyOk lb hs = false := by
                  cases hq : keyOk lb hs with
                  | false => rfl
                  | true =>
                    exfalso
                    unfold keyOk kHead kNums at hq
                    simp only [Bool.and_eq_true, decide_eq_true_eq, Bool.not_eq_true', decide_eq_false_iff_not] at hq
                    obtain ⟨⟨⟨⟨⟨⟨e1, e2⟩, e3⟩, e4⟩, e5⟩, ⟨⟨⟨⟨f1, f2⟩, f3⟩, f4⟩, f5⟩⟩, e7⟩ := hq
                    first
                      | exact absurd (e1.symm.trans c81) (by decide)
                      | exact absurd ((decide_eq_true e2).symm.trans (hja.symm.trans c85)) (by decide)
                      | exact absurd ((decide_eq_true e3).symm.trans (hjb.symm.trans c90)) (by decide)
                      | exact e4 c98
                      | exact e5 c106
                refine n_top (y := bZ false) rfl ?_
                exact ret_z C hr hlocks h (nI ((kU5 lb).2.1), nI ((kU5 lb).2.1), bZ ((kU5 lb).2.2), lN ((kU2 lb).1), some q_kU4, some q_kU5, mR M 52, E_kU5) (fun hk => by rw [hko] at hk; cases hk) (by rw [hko]) rfl (by omega) (by omega) dX7_readKey_110
    refine lv_iconst (v := nI 1) hx hb dX7_readKey_42 (by decide) ?_
    refine n_icmp_ne (tgt := 50) hx hb (by omega) (by omega) dX7_readKey_43 (by decide) (fun c43 => ?_) (fun c43 => ?_)
    · refine lv_iconst (v := nI 0) hx hb dX7_readKey_50 (by decide) ?_
      refine n_top (y := bZ false) rfl ?_
      exact jb false (by simp [*]) _ _ h _ (lv_sub hl [0, 1, 2, 3] rfl)
    · refine lv_iconst (v := nI 1) hx hb dX7_readKey_46 (by decide) ?_
      refine lv_goto (tgt := 51) hx hb dX7_readKey_47 (by decide) ?_
      refine n_top (y := bZ true) rfl ?_
      exact jb true (by simp [*]) _ _ h _ (lv_sub hl [0, 1, 2, 3] rfl)
  refine lv_iconst (v := nI 4) hx hb dX7_readKey_19 (by decide) ?_
  refine n_icmp_ne (tgt := 27) hx hb (by omega) (by omega) dX7_readKey_20 (by decide) (fun c20 => ?_) (fun c20 => ?_)
  · refine lv_iconst (v := nI 0) hx hb dX7_readKey_27 (by decide) ?_
    refine n_top (y := bZ false) rfl ?_
    exact ja false (by simp [*]) _ _ h _ (lv_sub hl [0, 1, 2] rfl)
  · refine lv_iconst (v := nI 1) hx hb dX7_readKey_23 (by decide) ?_
    refine lv_goto (tgt := 28) hx hb dX7_readKey_24 (by decide) ?_
    refine n_top (y := bZ true) rfl ?_
    exact ja true (by simp [*]) _ _ h _ (lv_sub hl [0, 1, 2] rfl)
