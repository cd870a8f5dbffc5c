set_option maxRecDepth 100000

theorem kO_1 {l : List Nat} {b : Bool} (h : ¬ (kU1 l).1 = 4) : keyOk l b = false := by unfold keyOk kHead; rw [decide_eq_false h]; simp
theorem kO_3 {l : List Nat} {b : Bool} (h : ¬ (kU3 l).1 = 1) : keyOk l b = false := by unfold keyOk kHead; rw [decide_eq_false h]; simp
theorem kO_5 {l : List Nat} {b : Bool} (h : (kU5 l).2.2 = false) : keyOk l b = false := by unfold keyOk kHead; rw [h]; simp
theorem kO_n {l : List Nat} {b : Bool} (h : (kN l).length = 0) : keyOk l b = false := by unfold keyOk kHead; rw [h]; simp
theorem kO_e {l : List Nat} {b : Bool} (h : (kE l).length = 0) : keyOk l b = false := by unfold keyOk kHead; rw [h]; simp
theorem kO_k {l : List Nat} {b : Bool} (h : kyOk (kN l) (kE l) = false) : keyOk l b = false := by unfold keyOk; rw [kNums_ky, h]; simp
theorem kO_up {l : List Nat} {b : Bool} (h1 : (kU1 l).1 = 4) (h3 : (kU3 l).1 = 1) (h5 : (kU5 l).2.2 = true) (hn : ¬ (kN l).length = 0) (he : ¬ (kE l).length = 0) (hk : kyOk (kN l) (kE l) = true) : keyOk l b = if b = true then kSecOk l else ((kU5 l).2.2 && decide (kSize l = l.length)) := by
  unfold keyOk kHead
  rw [kNums_ky, hk, h5, decide_eq_true h1, decide_eq_true h3, decide_eq_true hn, decide_eq_true he]
  simp
def secR (l : List Nat) : Bool := decide ((kS0 l).1 = 0) && ((kS5 l).2.2 && decide ((kS5 l).1 = kSum l % 65536))
theorem kSec_no {l : List Nat} (h : secR l = false) : kSecOk l = false := by
  unfold secR at h
  unfold kSecOk
  cases h1 : decide ((kS0 l).1 = 0) with
  | false => simp
  | true =>
    rw [h1, Bool.true_and] at h
    rw [h]; simp
theorem kSec_nb {l : List Nat} (h : 0 < (kSec l).length) (h2 : bitsL (kN l) < bitsL (kSec l)) : kSecOk l = false := by
  unfold kSecOk
  rw [decide_eq_false (show ¬ (kSec l).length = 0 by omega), decide_eq_true h2]
  simp
theorem kSec_up {l : List Nat} (h : secR l = true) (h2 : (kSec l).length = 0 ∨ ¬ bitsL (kN l) < bitsL (kSec l)) : kSecOk l = ((kS5 l).2.2 && decide ((kS5 l).2.1 = l.length)) := by
  unfold secR at h
  simp only [Bool.and_eq_true] at h
  unfold kSecOk
  rw [h.1, h.2.1, h.2.2]
  rcases h2 with q | q
  · rw [decide_eq_true q]; simp
  · rw [decide_eq_false q]; simp
theorem kSec_b {l : List Nat} (h : byt l) (hl : (kS0 l).2.1 ≤ l.length) : byt (kSec l) ∧ (kSec l).length ≤ l.length := ⟨(numS_ok h _ hl).2.1, (numS_ok h _ hl).2.2.1⟩
theorem i_nle {a b : Int32} (h : ¬ a ≤ b) : b < a := by
  rw [Int32.not_le] at h; exact h
theorem i_nlt {a b : Int32} (h : a ≤ b) : ¬ b < a := by
  rw [Int32.not_lt]; exact h
theorem cut_take {l : List Nat} {k j : Nat} (h : k ≤ l.length) (hj : j < k) : cutF l.length (gD l) j = gD (l.take k) j := by
  unfold cutF
  rw [if_pos (by omega)]
  unfold gD
  rw [List.getD_eq_getElem?_getD, List.getD_eq_getElem?_getD, List.getElem?_take_of_lt hj]
theorem bar_take {dA : Nat → ClassId} {l : List Nat} {k : Nat} (h : k ≤ l.length) : bar dA k (gD (l.take k)) = bal dA (l.take k) := by
  have e : (l.take k).length = k := by rw [List.length_take]; omega
  show _ = bar dA (l.take k).length (gD (l.take k))
  rw [e]

set_option maxHeartbeats 400000 in
set_option maxRecDepth 100000 in
theorem c1_putB4 (l : Launch) (D : va_G) (dA : Nat → ClassId) (B : Nat) (Z : State → Prop) (hZ : Stab B Z) (F : va_W) (ho st fi bl wo : Nat) (gw : Nat → Int32) (gb : Nat → Nat) (msg : List Nat) (na ba an ae ap : Nat) (md : Int64) (sa : Option Nat) (lb : List Nat)  (hbk : Blk gb msg) (hN : (na, .inr (13, [.ref ba, .long md, .ref an, .ref ae, .ref ap, va_rf sa])) ∈ F) (hba : (ba, bal dA lb) ∈ F) (hkb : byt lb) (hkl : lb.length ≤ 4096) (hml : msg.length < 100000) :
    Ct (S := (Nat → Int32) × (Nat → Int32) × (Nat → Nat)) l D dA B Z yX1_put cX1_put 2 none 6 0 0 [.ref ho, .ref na] ([(ho, .inr (2, [.ref st, .ref fi, .ref bl, .long (lN msg.length), .ref wo])), (st, war dA 5 (t5 (hs1 msg (msg.length / 64)))), (wo, war dA 80 gw), (bl, bar dA 64 gb)] ++ F) (fun u => Blk u.2.2 (msg ++ keyMsg lb)) (fun _ => none) (fun u => [(ho, .inr (2, [.ref st, .ref fi, .ref bl, .long (lN ((msg ++ keyMsg lb).length)), .ref wo])), (st, war dA 5 (t5 (hs1 (msg ++ keyMsg lb) ((msg ++ keyMsg lb).length / 64)))), (wo, war dA 80 u.1), (bl, bar dA 64 u.2.2)] ++ F) := by
  refine Ct.mk2 (by decide) (Nat.le_of_ble_eq_true rfl) hZ ?_
  intro p e R s m args below meth c ls Q C hr hlocks hin hQ hl h
  have C0 := C
  obtain ⟨hx, hb, hml, hown, hts, -⟩ := C0
  have hl : lv_has ls 2 [(0, .ref ho), (1, .ref na)] := hl
  refine lv_aload_n hx hb dX1_put_0 rfl (lv_at hl 0 rfl) ?_
  refine lv_sipush (v := nI 153) hx hb dX1_put_1 (by decide) ?_
  refine call_U (As := [.int (nI 153)]) (rest := []) (n := 1) C h (c4_put l D dA B Z hZ F ho st fi bl wo gw gb (msg) (nI 153) (153) hbk (by (try simp only [List.length_append, be_len, sl_len, List.length_cons, List.length_nil]) <;> omega) (by decide) (by decide)) (lw_U q1190 q1192 q1193 q1191 q134 q1195) rfl (by decide +kernel) (o_recv C h (RC := RX4) (T := TX4) (N := 5) (List.mem_of_getElem? (i := 0) rfl) rfl) (by decide) (by decide) rfl hl rfl (Nat.le_of_ble_eq_true rfl) dX1_put_4 (by omega) (fun u3 H locs hbk_1 h => ?_)
  obtain ⟨gw_1, y_1, gb_1⟩ := u3
  dsimp only at hbk_1
  have h : Wd D B s ([(ho, .inr (2, [.ref st, .ref fi, .ref bl, .long (lN ((msg ++ [153]).length)), .ref wo])), (st, war dA 5 (t5 (hs1 (msg ++ [153]) ((msg ++ [153]).length / 64)))), (wo, war dA 80 gw_1), (bl, bar dA 64 gb_1)] ++ F) H locs := h
  refine lv_aload_n hx hb dX1_put_7 rfl (lv_at hl 0 rfl) ?_
  refine lv_aload_n hx hb dX1_put_8 rfl (lv_at hl 1 rfl) ?_
  refine o_get C h (RC := RX16) (T := TX16) (N := 6) (List.mem_append_right _ hN) rfl in_X16 0 (by decide) q1148 rfl (v := .ref ba) rfl dX1_put_9 ?_
  refine n_balen C h (List.mem_append_right _ hba) dX1_put_12 ?_
  refine lv_i2l (v := lN lb.length) hx hb dX1_put_13 (nI_l (by omega)) ?_
  refine lv_iconst (v := nI 2) hx hb dX1_put_14 (by decide) ?_
  refine call_U (As := [.long (lN lb.length), .int (nI 2)]) (rest := []) (n := 2) C h (c4_number l D dA B Z hZ F ho st fi bl wo gw_1 gb_1 (msg ++ [153]) (lb.length) 2 hbk_1 (by omega) (by decide) (by (try simp only [List.length_append, be_len, sl_len, List.length_cons, List.length_nil]) <;> omega)) (lw_U q1224 q1226 q1227 q1225 q134 q1229) rfl (by decide +kernel) (o_recv C h (RC := RX4) (T := TX4) (N := 5) (List.mem_of_getElem? (i := 0) rfl) rfl) (by decide) (by decide) rfl hl rfl (Nat.le_of_ble_eq_true rfl) dX1_put_15 (by omega) (fun u3 H locs hbk_2 h => ?_)
  obtain ⟨gw_2, y_2, gb_2⟩ := u3
  dsimp only at hbk_2
  have h : Wd D B s ([(ho, .inr (2, [.ref st, .ref fi, .ref bl, .long (lN ((msg ++ [153] ++ be 2 lb.length).length)), .ref wo])), (st, war dA 5 (t5 (hs1 (msg ++ [153] ++ be 2 lb.length) ((msg ++ [153] ++ be 2 lb.length).length / 64)))), (wo, war dA 80 gw_2), (bl, bar dA 64 gb_2)] ++ F) H locs := h
  refine lv_aload_n hx hb dX1_put_18 rfl (lv_at hl 0 rfl) ?_
  refine lv_aload_n hx hb dX1_put_19 rfl (lv_at hl 1 rfl) ?_
  refine o_get C h (RC := RX16) (T := TX16) (N := 6) (List.mem_append_right _ hN) rfl in_X16 0 (by decide) q1148 rfl (v := .ref ba) rfl dX1_put_20 ?_
  refine lv_iconst (v := nI 0) hx hb dX1_put_23 (by decide) ?_
  refine lv_aload_n hx hb dX1_put_24 rfl (lv_at hl 1 rfl) ?_
  refine o_get C h (RC := RX16) (T := TX16) (N := 6) (List.mem_append_right _ hN) rfl in_X16 0 (by decide) q1148 rfl (v := .ref ba) rfl dX1_put_25 ?_
  refine n_balen C h (List.mem_append_right _ hba) dX1_put_28 ?_
  refine call_U (As := [.ref ba, .int (nI 0), .int (nI lb.length)]) (rest := []) (n := 3) C h (c4_putA l D dA B Z hZ F ho st fi bl wo gw_2 gb_2 (msg ++ [153] ++ be 2 lb.length) ba (lb.length) (0) (lb.length) (gD lb) hbk_2 (hba) (by omega) (by omega) (by omega) (by (try simp only [List.length_append, be_len, sl_len, List.length_cons, List.length_nil]) <;> omega) (fun j _ => byt_gD hkb j)) (lw_U q1231 q1233 q1234 q1232 q134 q1236) rfl (by decide +kernel) (o_recv C h (RC := RX4) (T := TX4) (N := 5) (List.mem_of_getElem? (i := 0) rfl) rfl) (by decide) (by decide) rfl hl rfl (Nat.le_of_ble_eq_true rfl) dX1_put_29 (by omega) (fun u3 H locs hbk_3 h => ?_)
  obtain ⟨gw_3, y_3, gb_3⟩ := u3
  dsimp only at hbk_3
  have h : Wd D B s ([(ho, .inr (2, [.ref st, .ref fi, .ref bl, .long (lN ((msg ++ [153] ++ be 2 lb.length ++ sl (gD lb) 0 (lb.length - 0)).length)), .ref wo])), (st, war dA 5 (t5 (hs1 (msg ++ [153] ++ be 2 lb.length ++ sl (gD lb) 0 (lb.length - 0)) ((msg ++ [153] ++ be 2 lb.length ++ sl (gD lb) 0 (lb.length - 0)).length / 64)))), (wo, war dA 80 gw_3), (bl, bar dA 64 gb_3)] ++ F) H locs := h
  subst hQ
  have e9 : msg ++ [153] ++ be 2 lb.length ++ sl (gD lb) 0 (lb.length - 0) = msg ++ keyMsg lb := by rw [Nat.sub_zero, sl_gD]; unfold keyMsg; simp
  rw [e9] at h hbk_3
  exact ret_v C hr hlocks h (gw_3, gw_3, gb_3) hbk_3 rfl rfl (by omega) (by omega) dX1_put_32
set_option maxHeartbeats 400000 in
set_option maxRecDepth 100000 in
theorem c1_numbers (l : Launch) (D : va_G) (dA : Nat → ClassId) (B : Nat) (Z : State → Prop) (hZ : Stab B Z) (F : va_W) (ho st fi bl wo : Nat) (me bs dc ou rg h2 dg tk pl pk tx sd : Nat) (sz : Nat) (po : Nat) (u9 : HS) (gd : Nat → Nat) (ba : Nat) (lb : List Nat) (sc : Bool) (hfi : (fi, war dA 5 (t5 in1)) ∈ F) (hme : (me, .inr (0, [.ref bs, .int (nI sz), .ref dc, .ref ou, .ref rg, .ref ho, .ref h2, .ref dg, .ref po, .ref tk, .ref pl, .ref pk, .ref tx, .ref sd])) ∈ F) (hgb0 : ∀ j, j < 64 → u9.2.2.2.2 j < 256) (hgd0 : ∀ j, gd j < 256) (hba : (ba, bal dA lb) ∈ F) (hob : byt lb) (hol : lb.length ≤ 4096) :
    Ct (S := HS × (Nat → Nat) × Option Nat × va_W) l D dA B Z yX1_numbers cX1_numbers 9 (some ((.object "SignetRing$Numbers"))) 7 10 (7 * lb.length + 29) [.ref me, .ref ba, .int (bZ sc)] (h4C dA ho st fi bl wo u9 ++ ([(dg, bar dA 32 gd)] ++ F)) (fun u => (∀ j, u.2.1 j < 256) ∧ (∀ j, j < 64 → u.1.2.2.2.2 j < 256) ∧ (keyOk lb sc = false → u.2.2.1 = none) ∧ (keyOk lb sc = true → ∃ q, u.2.2.1 = some q ∧ NumIn dA u.2.2.2 (q, lb.take (kSize lb), secO lb sc))) (fun u => some (va_rf u.2.2.1)) (fun u => h4C dA ho st fi bl wo u.1 ++ ([(dg, bar dA 32 u.2.1)] ++ (F ++ u.2.2.2))) := by
  refine Ct.mk2 (by decide) (Nat.le_of_ble_eq_true rfl) hZ ?_
  intro p e R s m args below meth c ls Q C hr hlocks hin hQ hl h
  have C0 := C
  obtain ⟨hx, hb, hml, hown, hts, -⟩ := C0
  have hl : lv_has ls 9 [(0, .ref me), (1, .ref ba), (2, .int (bZ sc))] := hl
  have h : Wd D B s ([(ho, .inr (2, [.ref st, .ref fi, .ref bl, .long u9.1, .ref wo])), (st, war dA 5 u9.2.1), (wo, war dA 80 u9.2.2.1), (bl, bar dA 64 u9.2.2.2.2), (dg, bar dA 32 gd)] ++ F) s.heap [] := h
  have l1 : (kU1 lb).2.1 ≤ lb.length := (oneS_le (Nat.zero_le _)).1
  have o2 := someS_ok hob 4 0 0 (kU1 lb).2 l1 (by decide)
  have l2 : (kU2 lb).2.1 ≤ lb.length := o2.2.1
  have l3 : (kU3 lb).2.1 ≤ lb.length := (oneS_le l2).1
  have o4 := numS_ok hob (kU3 lb).2 l3
  have l4 : (kU4 lb).2.1 ≤ lb.length := o4.1
  have o5 := numS_ok hob (kU4 lb).2 l4
  have l5 : (kU5 lb).2.1 ≤ lb.length := o5.1
  have b1 : (kU1 lb).1 < 256 := oneS_lt hob _
  have b3 : (kU3 lb).1 < 256 := oneS_lt hob _
  have bn : byt (kN lb) := o4.2.1
  have be9 : byt (kE lb) := o5.2.1
  have ln : (kN lb).length ≤ lb.length := o4.2.2.1
  have le9 : (kE lb).length ≤ lb.length := o5.2.2.1
  have ls0 : (kS0 lb).2.1 ≤ lb.length := (oneS_le l5).1
  have hsec := kSec_b hob ls0
  have hz4 : (kU4 lb).1.length = (kN lb).length := rfl
  have hz5 : (kU5 lb).1.length = (kE lb).length := rfl
  have hzs : kSize lb = (kU5 lb).2.1 := rfl
  refine o_new C h (RC := RX15) (T := TX15) (N := 3) (ci := 12) (fs := [.null, .int 0, .int (bZ false)]) rfl in_X15 tyX15_ok q1093 q1094 q163 dv_X15 (by omega) (by omega) dX1_numbers_0 (fun o1 H h => ?_)
  have h := Wd.toFront h
  have h : Wd D B s ([(o1, .inr (12, [.null, .int 0, .int (bZ false)])), (ho, .inr (2, [.ref st, .ref fi, .ref bl, .long u9.1, .ref wo])), (st, war dA 5 u9.2.1), (wo, war dA 80 u9.2.2.1), (bl, bar dA 64 u9.2.2.2.2), (dg, bar dA 32 gd)] ++ F) H [] := h
  refine lv_dup hx hb dX1_numbers_3 rfl ?_
  refine lv_aload_n hx hb dX1_numbers_4 rfl (lv_at hl 1 rfl) ?_
  refine call_I (As := [.ref ba]) (rest := [.ref o1]) (n := 1) C h (c15_init l D dA B Z hZ ([(ho, .inr (2, [.ref st, .ref fi, .ref bl, .long u9.1, .ref wo])), (st, war dA 5 u9.2.1), (wo, war dA 80 u9.2.2.1), (bl, bar dA 64 u9.2.2.2.2), (dg, bar dA 32 gd)] ++ F) o1 ba) (lw_meth q1097) q163 q1095 q1096 rfl (by decide +kernel) (by decide) (by decide) rfl hl rfl (Nat.le_of_ble_eq_true rfl) dX1_numbers_5 (by omega) (fun _ H locs _ h => ?_)
  have h : Wd D B s ([(o1, .inr (12, [.ref ba, .int (nI 0), .int (bZ true)])), (ho, .inr (2, [.ref st, .ref fi, .ref bl, .long u9.1, .ref wo])), (st, war dA 5 u9.2.1), (wo, war dA 80 u9.2.2.1), (bl, bar dA 64 u9.2.2.2.2), (dg, bar dA 32 gd)] ++ F) H locs := h
  refine lv_astore_n (lv' := [(3, .ref o1), (0, .ref me), (1, .ref ba), (2, .int (bZ sc))]) hx hb dX1_numbers_8 rfl hl (by decide) rfl (fun ls hl => ?_)
  refine lv_aload_n hx hb dX1_numbers_9 rfl (lv_at hl 0 rfl) ?_
  refine call_VR (As := []) (rest := []) (n := 0) C h (c15_take l D dA B Z hZ ([(ho, .inr (2, [.ref st, .ref fi, .ref bl, .long u9.1, .ref wo])), (st, war dA 5 u9.2.1), (wo, war dA 80 u9.2.2.1), (bl, bar dA 64 u9.2.2.2.2), (dg, bar dA 32 gd)] ++ F) o1 ba lb ((0, true) : OU) (List.mem_append_right _ (hba)) hob (by omega) (Nat.zero_le _)) (lw_V q1114 q1115 q1116 q163 q1117) (by decide +kernel) (o_recv C h (RC := RX15) (T := TX15) (N := 3) (List.mem_of_getElem? (i := 0) rfl) rfl) (by decide) (by decide) rfl hl rfl (Nat.le_of_ble_eq_true rfl) dX1_numbers_10 (by omega) (fun _ H locs _ h => ?_)
  have h : Wd D B s ([(o1, .inr (12, [.ref ba, .int (nI ((kU1 lb).2.1)), .int (bZ ((kU1 lb).2.2))])), (ho, .inr (2, [.ref st, .ref fi, .ref bl, .long u9.1, .ref wo])), (st, war dA 5 u9.2.1), (wo, war dA 80 u9.2.2.1), (bl, bar dA 64 u9.2.2.2.2), (dg, bar dA 32 gd)] ++ F) H locs := h
  show W p l e R s m args below meth c H locs (0 + 1 + 0 + 0) (0 + 3 + 0 + 0) Q (F0 m 13 ls [.int (nI ((kU1 lb).1))])
  refine lv_iconst (v := nI 4) hx hb dX1_numbers_13 (by decide) ?_
  refine n_icmp_eq (tgt := 19) hx hb (by omega) (by omega) dX1_numbers_14 (by decide) (fun c14 => ?_) (fun c14 => ?_)
  · refine lv_aload_n hx hb dX1_numbers_19 rfl (lv_at hl 0 rfl) ?_
    refine lv_iconst (v := nI 4) hx hb dX1_numbers_20 (by decide) ?_
    refine call_VR (As := [.int (nI 4)]) (rest := []) (n := 1) C h (c15_takeN l D dA B Z hZ ([(ho, .inr (2, [.ref st, .ref fi, .ref bl, .long u9.1, .ref wo])), (st, war dA 5 u9.2.1), (wo, war dA 80 u9.2.2.1), (bl, bar dA 64 u9.2.2.2.2), (dg, bar dA 32 gd)] ++ F) o1 ba lb (kU1 lb).2 4 (List.mem_append_right _ (hba)) hob (by omega) l1 (by decide)) (lw_V q1118 q1119 q1120 q163 q1121) (by decide +kernel) (o_recv C h (RC := RX15) (T := TX15) (N := 3) (List.mem_of_getElem? (i := 0) rfl) rfl) (by decide) (by decide) rfl hl rfl (Nat.le_of_ble_eq_true rfl) dX1_numbers_21 (by omega) (fun _ H locs _ h => ?_)
    have h : Wd D B s ([(o1, .inr (12, [.ref ba, .int (nI ((kU2 lb).2.1)), .int (bZ ((kU2 lb).2.2))])), (ho, .inr (2, [.ref st, .ref fi, .ref bl, .long u9.1, .ref wo])), (st, war dA 5 u9.2.1), (wo, war dA 80 u9.2.2.1), (bl, bar dA 64 u9.2.2.2.2), (dg, bar dA 32 gd)] ++ F) H locs := h
    show W p l e R s m args below meth c H locs (0 + 1 + 0 + 0 + 0) (0 + 3 + 0 + 0 + 0) Q (F0 m 24 ls [.long (lN ((kU2 lb).1))])
    refine lv_lstore (lv' := [(4, .long (lN ((kU2 lb).1))), (3, .ref o1), (0, .ref me), (1, .ref ba), (2, .int (bZ sc))]) hx hb dX1_numbers_24 hl (by decide) rfl (fun ls hl => ?_)
    refine lv_aload_n hx hb dX1_numbers_26 rfl (lv_at hl 1 rfl) ?_
    refine call_VR (As := []) (rest := []) (n := 0) C h (c15_take l D dA B Z hZ ([(ho, .inr (2, [.ref st, .ref fi, .ref bl, .long u9.1, .ref wo])), (st, war dA 5 u9.2.1), (wo, war dA 80 u9.2.2.1), (bl, bar dA 64 u9.2.2.2.2), (dg, bar dA 32 gd)] ++ F) o1 ba lb (kU2 lb).2 (List.mem_append_right _ (hba)) hob (by omega) l2) (lw_V q1114 q1115 q1116 q163 q1117) (by decide +kernel) (o_recv C h (RC := RX15) (T := TX15) (N := 3) (List.mem_of_getElem? (i := 0) rfl) rfl) (by decide) (by decide) rfl hl rfl (Nat.le_of_ble_eq_true rfl) dX1_numbers_27 (by omega) (fun _ H locs _ h => ?_)
    have h : Wd D B s ([(o1, .inr (12, [.ref ba, .int (nI ((kU3 lb).2.1)), .int (bZ ((kU3 lb).2.2))])), (ho, .inr (2, [.ref st, .ref fi, .ref bl, .long u9.1, .ref wo])), (st, war dA 5 u9.2.1), (wo, war dA 80 u9.2.2.1), (bl, bar dA 64 u9.2.2.2.2), (dg, bar dA 32 gd)] ++ F) H locs := h
    show W p l e R s m args below meth c H locs (0 + 1 + 0 + 0 + 0 + 0) (0 + 3 + 0 + 0 + 0 + 0) Q (F0 m 30 ls [.int (nI ((kU3 lb).1))])
    refine lv_iconst (v := nI 1) hx hb dX1_numbers_30 (by decide) ?_
    refine n_icmp_eq (tgt := 36) hx hb (by omega) (by omega) dX1_numbers_31 (by decide) (fun c31 => ?_) (fun c31 => ?_)
    · refine lv_aload_n hx hb dX1_numbers_36 rfl (lv_at hl 1 rfl) ?_
      refine call_VR (As := []) (rest := []) (n := 0) C h (c15_number l D dA B Z hZ ([(ho, .inr (2, [.ref st, .ref fi, .ref bl, .long u9.1, .ref wo])), (st, war dA 5 u9.2.1), (wo, war dA 80 u9.2.2.1), (bl, bar dA 64 u9.2.2.2.2), (dg, bar dA 32 gd)] ++ F) o1 ba lb (kU3 lb).2 (List.mem_append_right _ (hba)) hob (by omega) l3) (lw_V q1123 q1124 q1125 q163 q1126) (by decide +kernel) (o_recv C h (RC := RX15) (T := TX15) (N := 3) (List.mem_of_getElem? (i := 0) rfl) rfl) (by decide) (by decide) rfl hl rfl (Nat.le_of_ble_eq_true rfl) dX1_numbers_37 (by omega) (fun q_kU4 H locs _ h => ?_)
      have h : Wd D B s ([(o1, .inr (12, [.ref ba, .int (nI ((kU4 lb).2.1)), .int (bZ ((kU4 lb).2.2))])), (ho, .inr (2, [.ref st, .ref fi, .ref bl, .long u9.1, .ref wo])), (st, war dA 5 u9.2.1), (wo, war dA 80 u9.2.2.1), (bl, bar dA 64 u9.2.2.2.2), (dg, bar dA 32 gd)] ++ (F ++ [(q_kU4, bal dA (kN lb))])) H locs := h
      show W p l e R s m args below meth c H locs (0 + 1 + 0 + 0 + 0 + 0 + 1) (0 + 3 + 0 + 0 + 0 + 0 + ((kU4 lb).1.length)) Q (F0 m 40 ls [.ref q_kU4])
      refine lv_astore (lv' := [(6, .ref q_kU4), (4, .long (lN ((kU2 lb).1))), (3, .ref o1), (0, .ref me), (1, .ref ba), (2, .int (bZ sc))]) hx hb dX1_numbers_40 hl (by decide) rfl (fun ls hl => ?_)
      refine lv_aload_n hx hb dX1_numbers_42 rfl (lv_at hl 2 rfl) ?_
      refine call_VR (As := []) (rest := []) (n := 0) C h (c15_number l D dA B Z hZ ([(ho, .inr (2, [.ref st, .ref fi, .ref bl, .long u9.1, .ref wo])), (st, war dA 5 u9.2.1), (wo, war dA 80 u9.2.2.1), (bl, bar dA 64 u9.2.2.2.2), (dg, bar dA 32 gd)] ++ (F ++ [(q_kU4, bal dA (kN lb))])) o1 ba lb (kU4 lb).2 (List.mem_append_right _ (List.mem_append_left _ hba)) hob (by omega) l4) (lw_V q1123 q1124 q1125 q163 q1126) (by decide +kernel) (o_recv C h (RC := RX15) (T := TX15) (N := 3) (List.mem_of_getElem? (i := 0) rfl) rfl) (by decide) (by decide) rfl hl rfl (Nat.le_of_ble_eq_true rfl) dX1_numbers_43 (by omega) (fun q_kU5 H locs _ h => ?_)
      have h : Wd D B s ([(o1, .inr (12, [.ref ba, .int (nI ((kU5 lb).2.1)), .int (bZ ((kU5 lb).2.2))])), (ho, .inr (2, [.ref st, .ref fi, .ref bl, .long u9.1, .ref wo])), (st, war dA 5 u9.2.1), (wo, war dA 80 u9.2.2.1), (bl, bar dA 64 u9.2.2.2.2), (dg, bar dA 32 gd)] ++ ((F ++ [(q_kU4, bal dA (kN lb))]) ++ [(q_kU5, bal dA (kE lb))])) H locs := h
      show W p l e R s m args below meth c H locs (0 + 1 + 0 + 0 + 0 + 0 + 1 + 1) (0 + 3 + 0 + 0 + 0 + 0 + ((kU4 lb).1.length) + ((kU5 lb).1.length)) Q (F0 m 46 ls [.ref q_kU5])
      refine lv_astore (lv' := [(7, .ref q_kU5), (6, .ref q_kU4), (4, .long (lN ((kU2 lb).1))), (3, .ref o1), (0, .ref me), (1, .ref ba), (2, .int (bZ sc))]) hx hb dX1_numbers_46 hl (by decide) rfl (fun ls hl => ?_)
      refine lv_aload_n hx hb dX1_numbers_48 rfl (lv_at hl 3 rfl) ?_
      refine o_get C h (RC := RX15) (T := TX15) (N := 3) (List.mem_of_getElem? (i := 0) rfl) rfl in_X15 2 (by decide) q1106 rfl (v := .int (bZ ((kU5 lb).2.2))) rfl dX1_numbers_49 ?_
      refine z_if_eq (tgt := 77) hx hb dX1_numbers_52 (by decide) (fun c52 => ?_) (fun c52 => ?_)
      · refine lv_null hx hb dX1_numbers_77 ?_
        subst hQ
        have hno : keyOk lb sc = false := by first | exact kO_5 c52 | exact kO_n c58 | exact kO_e c64 | exact kO_k c74
        have h : Wd D B s ([(ho, .inr (2, [.ref st, .ref fi, .ref bl, .long u9.1, .ref wo])), (st, war dA 5 u9.2.1), (wo, war dA 80 u9.2.2.1), (bl, bar dA 64 u9.2.2.2.2)] ++ ([(dg, bar dA 32 gd)] ++ (F ++ ([(o1, .inr (12, [.ref ba, .int (nI ((kU5 lb).2.1)), .int (bZ ((kU5 lb).2.2))]))] ++ (([] ++ [(q_kU4, bal dA (kN lb))]) ++ [(q_kU5, bal dA (kE lb))]))))) H locs := h.permL (perm_add (fun g f p0 p1 p2 => by (try simp only [p0, p1, p2]) <;> omega))
        have h : Wd D B s (h4C dA ho st fi bl wo u9 ++ ([(dg, bar dA 32 gd)] ++ (F ++ ([(o1, .inr (12, [.ref ba, .int (nI ((kU5 lb).2.1)), .int (bZ ((kU5 lb).2.2))]))] ++ (([] ++ [(q_kU4, bal dA (kN lb))]) ++ [(q_kU5, bal dA (kE lb))]))))) H locs := h
        exact ret_a C hr (Or.inl ⟨_, rfl⟩) hlocks h (u9, gd, none, [(o1, .inr (12, [.ref ba, .int (nI ((kU5 lb).2.1)), .int (bZ ((kU5 lb).2.2))]))] ++ (([] ++ [(q_kU4, bal dA (kN lb))]) ++ [(q_kU5, bal dA (kE lb))])) (⟨hgd0, hgb0, fun _ => rfl, fun q => by rw [hno] at q; cases q⟩) (Or.inl rfl) rfl rfl (by omega) (by omega) dX1_numbers_78
      · refine lv_aload hx hb dX1_numbers_55 (lv_at hl 1 rfl) ?_
        refine n_balen C h (List.mem_append_right _ (List.mem_append_left _ (List.mem_append_right _ List.mem_cons_self))) dX1_numbers_57 ?_
        refine n_if_eq (tgt := 77) hx hb (by omega) dX1_numbers_58 (by decide) (fun c58 => ?_) (fun c58 => ?_)
        · refine lv_null hx hb dX1_numbers_77 ?_
          subst hQ
          have hno : keyOk lb sc = false := by first | exact kO_5 c52 | exact kO_n c58 | exact kO_e c64 | exact kO_k c74
          have h : Wd D B s ([(ho, .inr (2, [.ref st, .ref fi, .ref bl, .long u9.1, .ref wo])), (st, war dA 5 u9.2.1), (wo, war dA 80 u9.2.2.1), (bl, bar dA 64 u9.2.2.2.2)] ++ ([(dg, bar dA 32 gd)] ++ (F ++ ([(o1, .inr (12, [.ref ba, .int (nI ((kU5 lb).2.1)), .int (bZ ((kU5 lb).2.2))]))] ++ (([] ++ [(q_kU4, bal dA (kN lb))]) ++ [(q_kU5, bal dA (kE lb))]))))) H locs := h.permL (perm_add (fun g f p0 p1 p2 => by (try simp only [p0, p1, p2]) <;> omega))
          have h : Wd D B s (h4C dA ho st fi bl wo u9 ++ ([(dg, bar dA 32 gd)] ++ (F ++ ([(o1, .inr (12, [.ref ba, .int (nI ((kU5 lb).2.1)), .int (bZ ((kU5 lb).2.2))]))] ++ (([] ++ [(q_kU4, bal dA (kN lb))]) ++ [(q_kU5, bal dA (kE lb))]))))) H locs := h
          exact ret_a C hr (Or.inl ⟨_, rfl⟩) hlocks h (u9, gd, none, [(o1, .inr (12, [.ref ba, .int (nI ((kU5 lb).2.1)), .int (bZ ((kU5 lb).2.2))]))] ++ (([] ++ [(q_kU4, bal dA (kN lb))]) ++ [(q_kU5, bal dA (kE lb))])) (⟨hgd0, hgb0, fun _ => rfl, fun q => by rw [hno] at q; cases q⟩) (Or.inl rfl) rfl rfl (by omega) (by omega) dX1_numbers_78
        · refine lv_aload hx hb dX1_numbers_61 (lv_at hl 0 rfl) ?_
          refine n_balen C h (List.mem_append_right _ (List.mem_append_right _ List.mem_cons_self)) dX1_numbers_63 ?_
          refine n_if_eq (tgt := 77) hx hb (by omega) dX1_numbers_64 (by decide) (fun c64 => ?_) (fun c64 => ?_)
          · refine lv_null hx hb dX1_numbers_77 ?_
            subst hQ
            have hno : keyOk lb sc = false := by first | exact kO_5 c52 | exact kO_n c58 | exact kO_e c64 | exact kO_k c74
            have h : Wd D B s ([(ho, .inr (2, [.ref st, .ref fi, .ref bl, .long u9.1, .ref wo])), (st, war dA 5 u9.2.1), (wo, war dA 80 u9.2.2.1), (bl, bar dA 64 u9.2.2.2.2)] ++ ([(dg, bar dA 32 gd)] ++ (F ++ ([(o1, .inr (12, [.ref ba, .int (nI ((kU5 lb).2.1)), .int (bZ ((kU5 lb).2.2))]))] ++ (([] ++ [(q_kU4, bal dA (kN lb))]) ++ [(q_kU5, bal dA (kE lb))]))))) H locs := h.permL (perm_add (fun g f p0 p1 p2 => by (try simp only [p0, p1, p2]) <;> omega))
            have h : Wd D B s (h4C dA ho st fi bl wo u9 ++ ([(dg, bar dA 32 gd)] ++ (F ++ ([(o1, .inr (12, [.ref ba, .int (nI ((kU5 lb).2.1)), .int (bZ ((kU5 lb).2.2))]))] ++ (([] ++ [(q_kU4, bal dA (kN lb))]) ++ [(q_kU5, bal dA (kE lb))]))))) H locs := h
            exact ret_a C hr (Or.inl ⟨_, rfl⟩) hlocks h (u9, gd, none, [(o1, .inr (12, [.ref ba, .int (nI ((kU5 lb).2.1)), .int (bZ ((kU5 lb).2.2))]))] ++ (([] ++ [(q_kU4, bal dA (kN lb))]) ++ [(q_kU5, bal dA (kE lb))])) (⟨hgd0, hgb0, fun _ => rfl, fun q => by rw [hno] at q; cases q⟩) (Or.inl rfl) rfl rfl (by omega) (by omega) dX1_numbers_78
          · refine lv_aload hx hb dX1_numbers_67 (lv_at hl 1 rfl) ?_
            refine lv_aload hx hb dX1_numbers_69 (lv_at hl 0 rfl) ?_
            refine call_S (As := [.ref q_kU4, .ref q_kU5]) (rest := []) (n := 2) C h (c1_isKey l D dA B Z hZ _ q_kU4 q_kU5 (kN lb) (kE lb) (List.mem_append_right _ (List.mem_append_left _ (List.mem_append_right _ List.mem_cons_self))) (List.mem_append_right _ (List.mem_append_right _ List.mem_cons_self)) (by omega) (by omega) bn be9 (by omega) (by omega)) (lw_S q1136 q1137 q129 q1138) (by decide +kernel) (by decide) (by decide) rfl hl rfl (Nat.le_of_ble_eq_true rfl) dX1_numbers_71 (by omega) (fun _ H locs _ h => ?_)
            refine z_if_ne (tgt := 79) hx hb dX1_numbers_74 (by decide) (fun c74 => ?_) (fun c74 => ?_)
            · refine o_new C h (RC := RX16) (T := TX16) (N := 6) (ci := 13) (fs := [.null, .long 0, .null, .null, .null, .null]) rfl in_X16 tyX16_ok q1140 q1141 q164 dv_X16 (by omega) (by omega) dX1_numbers_79 (fun o2 H h => ?_)
              have h := Wd.toFront h
              have h : Wd D B s ([(o2, .inr (13, [.null, .long 0, .null, .null, .null, .null])), (o1, .inr (12, [.ref ba, .int (nI ((kU5 lb).2.1)), .int (bZ ((kU5 lb).2.2))])), (ho, .inr (2, [.ref st, .ref fi, .ref bl, .long u9.1, .ref wo])), (st, war dA 5 u9.2.1), (wo, war dA 80 u9.2.2.1), (bl, bar dA 64 u9.2.2.2.2), (dg, bar dA 32 gd)] ++ ((F ++ [(q_kU4, bal dA (kN lb))]) ++ [(q_kU5, bal dA (kE lb))])) H locs := h
              refine lv_dup hx hb dX1_numbers_82 rfl ?_
              refine lv_aload_n hx hb dX1_numbers_83 rfl (lv_at hl 5 rfl) ?_
              refine lv_aload_n hx hb dX1_numbers_84 rfl (lv_at hl 3 rfl) ?_
              refine o_get C h (RC := RX15) (T := TX15) (N := 3) (List.mem_of_getElem? (i := 1) rfl) rfl in_X15 1 (by decide) q1103 rfl (v := .int (nI ((kU5 lb).2.1))) rfl dX1_numbers_85 ?_
              refine call_S (As := [.ref ba, .int (nI ((kU5 lb).2.1))]) (rest := [.ref o2, .ref o2]) (n := 2) C h (cJ_copyOf l D dA B Z hZ _ ba lb.length (kU5 lb).2.1 (gD lb) (List.mem_append_right _ (List.mem_append_left _ (List.mem_append_left _ hba))) (by omega) (by omega)) (lw_S q1142 q566 q143 q567) (by decide +kernel) (by decide) (by decide) rfl hl rfl (Nat.le_of_ble_eq_true rfl) dX1_numbers_88 (by omega) (fun qb H locs _ h => ?_)
              have h := Wd.toFront h
              have h : Wd D B s ([(qb, bar dA (kU5 lb).2.1 (gD (lb.take (kSize lb))))] ++ ([(o2, .inr (13, [.null, .long 0, .null, .null, .null, .null])), (o1, .inr (12, [.ref ba, .int (nI ((kU5 lb).2.1)), .int (bZ ((kU5 lb).2.2))])), (ho, .inr (2, [.ref st, .ref fi, .ref bl, .long u9.1, .ref wo])), (st, war dA 5 u9.2.1), (wo, war dA 80 u9.2.2.1), (bl, bar dA 64 u9.2.2.2.2), (dg, bar dA 32 gd)] ++ ((F ++ [(q_kU4, bal dA (kN lb))]) ++ [(q_kU5, bal dA (kE lb))]))) H locs := Wd.same h 0 rfl (bar_same (fun j hj => cut_take l5 hj)) rfl
              have e8 : bar dA (kU5 lb).2.1 (gD (lb.take (kSize lb))) = bal dA (lb.take (kSize lb)) := bar_take l5
              rw [e8] at h
              have h : Wd D B s ([(o2, .inr (13, [.null, .long 0, .null, .null, .null, .null])), (o1, .inr (12, [.ref ba, .int (nI ((kU5 lb).2.1)), .int (bZ ((kU5 lb).2.2))])), (ho, .inr (2, [.ref st, .ref fi, .ref bl, .long u9.1, .ref wo])), (st, war dA 5 u9.2.1), (wo, war dA 80 u9.2.2.1), (bl, bar dA 64 u9.2.2.2.2), (dg, bar dA 32 gd)] ++ (((F ++ [(q_kU4, bal dA (kN lb))]) ++ [(q_kU5, bal dA (kE lb))]) ++ [(qb, bal dA (lb.take (kSize lb)))])) H locs := h.permL (perm_add (fun g f p0 p1 p2 => by (try simp only [p0, p1, p2]) <;> omega))
              refine call_I (As := [.ref qb]) (rest := [.ref o2]) (n := 1) C h (c16_init l D dA B Z hZ ([(o1, .inr (12, [.ref ba, .int (nI ((kU5 lb).2.1)), .int (bZ ((kU5 lb).2.2))])), (ho, .inr (2, [.ref st, .ref fi, .ref bl, .long u9.1, .ref wo])), (st, war dA 5 u9.2.1), (wo, war dA 80 u9.2.2.1), (bl, bar dA 64 u9.2.2.2.2), (dg, bar dA 32 gd)] ++ (((F ++ [(q_kU4, bal dA (kN lb))]) ++ [(q_kU5, bal dA (kE lb))]) ++ [(qb, bal dA (lb.take (kSize lb)))])) o2 qb) (lw_meth q1145) q164 q1143 q1144 rfl (by decide +kernel) (by decide) (by decide) rfl hl rfl (Nat.le_of_ble_eq_true rfl) dX1_numbers_91 (by omega) (fun ap H locs _ h => ?_)
              have h : Wd D B s ([(o2, .inr (13, [.ref qb, .long 0, .null, .null, .ref ap, .null])), (ap, bar dA 20 (fun _ => 0)), (o1, .inr (12, [.ref ba, .int (nI ((kU5 lb).2.1)), .int (bZ ((kU5 lb).2.2))])), (ho, .inr (2, [.ref st, .ref fi, .ref bl, .long u9.1, .ref wo])), (st, war dA 5 u9.2.1), (wo, war dA 80 u9.2.2.1), (bl, bar dA 64 u9.2.2.2.2), (dg, bar dA 32 gd)] ++ (((F ++ [(q_kU4, bal dA (kN lb))]) ++ [(q_kU5, bal dA (kE lb))]) ++ [(qb, bal dA (lb.take (kSize lb)))])) H locs := h
              refine lv_astore (lv' := [(8, .ref o2), (7, .ref q_kU5), (6, .ref q_kU4), (4, .long (lN ((kU2 lb).1))), (3, .ref o1), (0, .ref me), (1, .ref ba), (2, .int (bZ sc))]) hx hb dX1_numbers_94 hl (by decide) rfl (fun ls hl => ?_)
              refine lv_aload hx hb dX1_numbers_96 (lv_at hl 0 rfl) ?_
              refine lv_lload hx hb dX1_numbers_98 (lv_at hl 3 rfl) ?_
              refine o_put C h 0 (RC := RX16) (T := TX16) (N := 6) (ws' := [(o2, .inr (13, [.ref qb, .long (lN ((kU2 lb).1)), .null, .null, .ref ap, .null])), (ap, bar dA 20 (fun _ => 0)), (o1, .inr (12, [.ref ba, .int (nI ((kU5 lb).2.1)), .int (bZ ((kU5 lb).2.2))])), (ho, .inr (2, [.ref st, .ref fi, .ref bl, .long u9.1, .ref wo])), (st, war dA 5 u9.2.1), (wo, war dA 80 u9.2.2.1), (bl, bar dA 64 u9.2.2.2.2), (dg, bar dA 32 gd)] ++ (((F ++ [(q_kU4, bal dA (kN lb))]) ++ [(q_kU5, bal dA (kE lb))]) ++ [(qb, bal dA (lb.take (kSize lb)))])) rfl rfl in_X16 tyX16_ok nmX16 1 (by decide) q1150 rfl rfl (v := .long (lN ((kU2 lb).1))) rfl rfl (Nat.le_of_ble_eq_true rfl) rfl dX1_numbers_100 (fun H locs h => ?_)
              refine lv_aload hx hb dX1_numbers_103 (lv_at hl 0 rfl) ?_
              refine lv_aload hx hb dX1_numbers_105 (lv_at hl 2 rfl) ?_
              refine o_put C h 0 (RC := RX16) (T := TX16) (N := 6) (ws' := [(o2, .inr (13, [.ref qb, .long (lN ((kU2 lb).1)), .ref q_kU4, .null, .ref ap, .null])), (ap, bar dA 20 (fun _ => 0)), (o1, .inr (12, [.ref ba, .int (nI ((kU5 lb).2.1)), .int (bZ ((kU5 lb).2.2))])), (ho, .inr (2, [.ref st, .ref fi, .ref bl, .long u9.1, .ref wo])), (st, war dA 5 u9.2.1), (wo, war dA 80 u9.2.2.1), (bl, bar dA 64 u9.2.2.2.2), (dg, bar dA 32 gd)] ++ (((F ++ [(q_kU4, bal dA (kN lb))]) ++ [(q_kU5, bal dA (kE lb))]) ++ [(qb, bal dA (lb.take (kSize lb)))])) rfl rfl in_X16 tyX16_ok nmX16 2 (by decide) q1152 rfl rfl (v := .ref q_kU4) rfl rfl (Nat.le_of_ble_eq_true rfl) rfl dX1_numbers_107 (fun H locs h => ?_)
              refine lv_aload hx hb dX1_numbers_110 (lv_at hl 0 rfl) ?_
              refine lv_aload hx hb dX1_numbers_112 (lv_at hl 1 rfl) ?_
              refine o_put C h 0 (RC := RX16) (T := TX16) (N := 6) (ws' := [(o2, .inr (13, [.ref qb, .long (lN ((kU2 lb).1)), .ref q_kU4, .ref q_kU5, .ref ap, .null])), (ap, bar dA 20 (fun _ => 0)), (o1, .inr (12, [.ref ba, .int (nI ((kU5 lb).2.1)), .int (bZ ((kU5 lb).2.2))])), (ho, .inr (2, [.ref st, .ref fi, .ref bl, .long u9.1, .ref wo])), (st, war dA 5 u9.2.1), (wo, war dA 80 u9.2.2.1), (bl, bar dA 64 u9.2.2.2.2), (dg, bar dA 32 gd)] ++ (((F ++ [(q_kU4, bal dA (kN lb))]) ++ [(q_kU5, bal dA (kE lb))]) ++ [(qb, bal dA (lb.take (kSize lb)))])) rfl rfl in_X16 tyX16_ok nmX16 3 (by decide) q1154 rfl rfl (v := .ref q_kU5) rfl rfl (Nat.le_of_ble_eq_true rfl) rfl dX1_numbers_114 (fun H locs h => ?_)
              have h : Wd D B s ([(o2, .inr (13, [.ref qb, .long (lN (kMade lb)), .ref q_kU4, .ref q_kU5, .ref ap, .null])), (ap, bar dA 20 (fun _ => 0)), (o1, .inr (12, [.ref ba, .int (nI ((kU5 lb).2.1)), .int (bZ ((kU5 lb).2.2))])), (ho, .inr (2, [.ref st, .ref fi, .ref bl, .long u9.1, .ref wo])), (st, war dA 5 u9.2.1), (wo, war dA 80 u9.2.2.1), (bl, bar dA 64 u9.2.2.2.2), (dg, bar dA 32 gd)] ++ (((F ++ [(q_kU4, bal dA (kN lb))]) ++ [(q_kU5, bal dA (kE lb))]) ++ [(qb, bal dA (lb.take (kSize lb)))])) H locs := h
              have h : Wd D B s ([(o2, .inr (13, [.ref qb, .long (lN (kMade lb)), .ref q_kU4, .ref q_kU5, .ref ap, .null])), (ap, bar dA 20 (fun _ => 0)), (o1, .inr (12, [.ref ba, .int (nI ((kU5 lb).2.1)), .int (bZ ((kU5 lb).2.2))])), (ho, .inr (2, [.ref st, .ref fi, .ref bl, .long u9.1, .ref wo])), (st, war dA 5 u9.2.1), (wo, war dA 80 u9.2.2.1), (bl, bar dA 64 u9.2.2.2.2), (dg, bar dA 32 gd)] ++ (F ++ (((([] ++ [(q_kU4, bal dA (kN lb))]) ++ [(q_kU5, bal dA (kE lb))]) ++ [(qb, bal dA (lb.take (kSize lb)))]) ++ []))) H locs := h.permL (perm_add (fun g f p0 p1 p2 => by (try simp only [p0, p1, p2]) <;> omega))
              have hko := fun b => kO_up (b := b) c14 c31 c52 c58 c64 c74
              have jn : ∀ (u7 : OU) (so7 : Option Nat) (E7 : va_W) (cc7 cs7 : Nat), (u7.1 ≤ lb.length) → (keyOk lb sc = (u7.2 && decide (u7.1 = lb.length))) → (ROb dA E7 so7 (secO lb sc)) → (cc7 ≤ 10) → (cs7 ≤ 7 * lb.length + 29) → ∀ (H : Heap) (locs : List Loc), Wd D B s ([(o2, .inr (13, [.ref qb, .long (lN (kMade lb)), .ref q_kU4, .ref q_kU5, .ref ap, va_rf so7])), (ap, bar dA 20 (fun _ => 0)), (o1, .inr (12, [.ref ba, .int (nI u7.1), .int (bZ u7.2)])), (ho, .inr (2, [.ref st, .ref fi, .ref bl, .long u9.1, .ref wo])), (st, war dA 5 u9.2.1), (wo, war dA 80 u9.2.2.1), (bl, bar dA 64 u9.2.2.2.2), (dg, bar dA 32 gd)] ++ (F ++ (((([] ++ [(q_kU4, bal dA (kN lb))]) ++ [(q_kU5, bal dA (kE lb))]) ++ [(qb, bal dA (lb.take (kSize lb)))]) ++ E7))) H locs → ∀ (ls : Array Slot), lv_has ls 9 [(0, .ref me), (1, .ref ba), (3, .ref o1), (6, .ref q_kU4), (8, .ref o2)] → W p l e R s m args below meth c H locs cc7 cs7 Q (F0 m 157 ls []) := by
                intro u7  so7  E7  cc7 cs7  hu7 hk7 hr7 hcc7 hcs7 H locs h ls hl
                refine lv_aload_n hx hb dX1_numbers_157 rfl (lv_at hl 2 rfl) ?_
                have h : Wd D B s ([(o1, .inr (12, [.ref ba, .int (nI u7.1), .int (bZ u7.2)])), (o2, .inr (13, [.ref qb, .long (lN (kMade lb)), .ref q_kU4, .ref q_kU5, .ref ap, va_rf so7])), (ap, bar dA 20 (fun _ => 0)), (ho, .inr (2, [.ref st, .ref fi, .ref bl, .long u9.1, .ref wo])), (st, war dA 5 u9.2.1), (wo, war dA 80 u9.2.2.1), (bl, bar dA 64 u9.2.2.2.2), (dg, bar dA 32 gd)] ++ (F ++ (((([] ++ [(q_kU4, bal dA (kN lb))]) ++ [(q_kU5, bal dA (kE lb))]) ++ [(qb, bal dA (lb.take (kSize lb)))]) ++ E7))) H locs := h.perm [2, 0, 1, 3, 4, 5, 6, 7] rfl rfl
                refine call_VR (As := []) (rest := []) (n := 0) C h (c15_isEnd l D dA B Z hZ ([(o2, .inr (13, [.ref qb, .long (lN (kMade lb)), .ref q_kU4, .ref q_kU5, .ref ap, va_rf so7])), (ap, bar dA 20 (fun _ => 0)), (ho, .inr (2, [.ref st, .ref fi, .ref bl, .long u9.1, .ref wo])), (st, war dA 5 u9.2.1), (wo, war dA 80 u9.2.2.1), (bl, bar dA 64 u9.2.2.2.2), (dg, bar dA 32 gd)] ++ (F ++ (((([] ++ [(q_kU4, bal dA (kN lb))]) ++ [(q_kU5, bal dA (kE lb))]) ++ [(qb, bal dA (lb.take (kSize lb)))]) ++ E7))) o1 ba lb u7 (List.mem_append_right _ (List.mem_append_left _ hba)) hob (by omega) hu7) (lw_V q1176 q1177 q1178 q163 q1179) (by decide +kernel) (o_recv C h (RC := RX15) (T := TX15) (N := 3) (List.mem_of_getElem? (i := 0) rfl) rfl) (by decide) (by decide) rfl hl rfl (Nat.le_of_ble_eq_true rfl) dX1_numbers_158 (by omega) (fun _ H locs _ h => ?_)
                have h : Wd D B s ([(o1, .inr (12, [.ref ba, .int (nI u7.1), .int (bZ u7.2)])), (o2, .inr (13, [.ref qb, .long (lN (kMade lb)), .ref q_kU4, .ref q_kU5, .ref ap, va_rf so7])), (ap, bar dA 20 (fun _ => 0)), (ho, .inr (2, [.ref st, .ref fi, .ref bl, .long u9.1, .ref wo])), (st, war dA 5 u9.2.1), (wo, war dA 80 u9.2.2.1), (bl, bar dA 64 u9.2.2.2.2), (dg, bar dA 32 gd)] ++ (F ++ (((([] ++ [(q_kU4, bal dA (kN lb))]) ++ [(q_kU5, bal dA (kE lb))]) ++ [(qb, bal dA (lb.take (kSize lb)))]) ++ E7))) H locs := h
                refine z_if_ne (tgt := 166) hx hb dX1_numbers_161 (by decide) (fun c161 => ?_) (fun c161 => ?_)
                · refine lv_aload_n hx hb dX1_numbers_166 rfl (lv_at hl 0 rfl) ?_
                  refine o_get C h (RC := RX1) (T := TX1) (N := 14) (List.mem_append_right _ (List.mem_append_left _ hme)) rfl in_X1 5 (by decide) q313 rfl (v := .ref ho) rfl dX1_numbers_167 ?_
                  have hok : keyOk lb sc = true := hk7.trans c161
                  have h : Wd D B s ([(ho, .inr (2, [.ref st, .ref fi, .ref bl, .long u9.1, .ref wo])), (st, war dA 5 u9.2.1), (wo, war dA 80 u9.2.2.1), (bl, bar dA 64 u9.2.2.2.2), (o1, .inr (12, [.ref ba, .int (nI u7.1), .int (bZ u7.2)])), (o2, .inr (13, [.ref qb, .long (lN (kMade lb)), .ref q_kU4, .ref q_kU5, .ref ap, va_rf so7])), (ap, bar dA 20 (fun _ => 0)), (dg, bar dA 32 gd)] ++ (F ++ (((([] ++ [(q_kU4, bal dA (kN lb))]) ++ [(q_kU5, bal dA (kE lb))]) ++ [(qb, bal dA (lb.take (kSize lb)))]) ++ E7))) H locs := h.perm [3, 4, 5, 6, 0, 1, 2, 7] rfl rfl
                  refine call_U (As := []) (rest := []) (n := 0) C h (c4_begin l D dA B Z hZ ([(o1, .inr (12, [.ref ba, .int (nI u7.1), .int (bZ u7.2)])), (o2, .inr (13, [.ref qb, .long (lN (kMade lb)), .ref q_kU4, .ref q_kU5, .ref ap, va_rf so7])), (ap, bar dA 20 (fun _ => 0)), (dg, bar dA 32 gd)] ++ (F ++ (((([] ++ [(q_kU4, bal dA (kN lb))]) ++ [(q_kU5, bal dA (kE lb))]) ++ [(qb, bal dA (lb.take (kSize lb)))]) ++ E7))) ho st fi bl wo u9.2.2.1 u9.2.2.2.2 u9.1 u9.2.1 (List.mem_append_right _ (List.mem_append_left _ hfi))) (lw_U q1180 q1182 q1183 q1181 q134 q1185) rfl (by decide +kernel) (o_recv C h (RC := RX4) (T := TX4) (N := 5) (List.mem_of_getElem? (i := 0) rfl) rfl) (by decide) (by decide) rfl hl rfl (Nat.le_of_ble_eq_true rfl) dX1_numbers_170 (by omega) (fun _ H locs _ h => ?_)
                  have h : Wd D B s ([(ho, .inr (2, [.ref st, .ref fi, .ref bl, .long (lN (([] : List Nat).length)), .ref wo])), (st, war dA 5 (t5 (hs1 ([] : List Nat) (([] : List Nat).length / 64)))), (wo, war dA 80 u9.2.2.1), (bl, bar dA 64 u9.2.2.2.2), (o1, .inr (12, [.ref ba, .int (nI u7.1), .int (bZ u7.2)])), (o2, .inr (13, [.ref qb, .long (lN (kMade lb)), .ref q_kU4, .ref q_kU5, .ref ap, va_rf so7])), (ap, bar dA 20 (fun _ => 0)), (dg, bar dA 32 gd)] ++ (F ++ (((([] ++ [(q_kU4, bal dA (kN lb))]) ++ [(q_kU5, bal dA (kE lb))]) ++ [(qb, bal dA (lb.take (kSize lb)))]) ++ E7))) H locs := h
                  obtain ⟨gw, hgw9⟩ : ∃ z, z = u9.2.2.1 := ⟨_, rfl⟩
                  obtain ⟨gb, hgb9⟩ : ∃ z, z = u9.2.2.2.2 := ⟨_, rfl⟩
                  rw [← hgw9, ← hgb9] at h
                  have hbk : Blk gb [] := Blk_nil (by rw [hgb9]; exact hgb0)
                  have h : Wd D B s ([(ho, .inr (2, [.ref st, .ref fi, .ref bl, .long (lN (([] : List Nat).length)), .ref wo])), (st, war dA 5 (t5 (hs1 ([] : List Nat) (([] : List Nat).length / 64)))), (wo, war dA 80 gw), (bl, bar dA 64 gb), (o1, .inr (12, [.ref ba, .int (nI u7.1), .int (bZ u7.2)])), (o2, .inr (13, [.ref qb, .long (lN (kMade lb)), .ref q_kU4, .ref q_kU5, .ref ap, va_rf so7])), (ap, bar dA 20 (fun _ => 0)), (dg, bar dA 32 gd)] ++ (F ++ (((([] ++ [(q_kU4, bal dA (kN lb))]) ++ [(q_kU5, bal dA (kE lb))]) ++ [(qb, bal dA (lb.take (kSize lb)))]) ++ E7))) H locs := h
                  refine lv_aload_n hx hb dX1_numbers_173 rfl (lv_at hl 0 rfl) ?_
                  refine o_get C h (RC := RX1) (T := TX1) (N := 14) (List.mem_append_right _ (List.mem_append_left _ hme)) rfl in_X1 5 (by decide) q313 rfl (v := .ref ho) rfl dX1_numbers_174 ?_
                  refine lv_aload hx hb dX1_numbers_177 (lv_at hl 4 rfl) ?_
                  obtain ⟨htl, ht2, ht4, ht5⟩ := k_take hok hob
                  have hkb9 : byt (lb.take (kSize lb)) := fun x hx => hob x (List.mem_of_mem_take hx)
                  have hkl9 : (lb.take (kSize lb)).length ≤ 4096 := by rw [List.length_take]; omega
                  refine call_S (As := [.ref ho, .ref o2]) (rest := []) (n := 2) C h (c1_putB4 l D dA B Z hZ ([(o1, .inr (12, [.ref ba, .int (nI u7.1), .int (bZ u7.2)])), (o2, .inr (13, [.ref qb, .long (lN (kMade lb)), .ref q_kU4, .ref q_kU5, .ref ap, va_rf so7])), (ap, bar dA 20 (fun _ => 0)), (dg, bar dA 32 gd)] ++ (F ++ (((([] ++ [(q_kU4, bal dA (kN lb))]) ++ [(q_kU5, bal dA (kE lb))]) ++ [(qb, bal dA (lb.take (kSize lb)))]) ++ E7))) ho st fi bl wo gw gb ([] : List Nat) o2 qb q_kU4 q_kU5 ap (lN (kMade lb)) so7 (lb.take (kSize lb)) hbk (List.mem_of_getElem? (i := 1) rfl) (List.mem_append_right _ (List.mem_append_right _ (List.mem_append_left _ (List.mem_append_right _ List.mem_cons_self)))) hkb9 hkl9 (by decide)) (lw_S q1187 q1188 q129 q1189) (by decide +kernel) (by decide) (by decide) rfl hl rfl (Nat.le_of_ble_eq_true rfl) dX1_numbers_179 (by omega) (fun u3 H locs hbk_1 h => ?_)
                  obtain ⟨gw_1, y_1, gb_1⟩ := u3
                  dsimp only at hbk_1
                  have h : Wd D B s ([(ho, .inr (2, [.ref st, .ref fi, .ref bl, .long (lN ((([] : List Nat) ++ keyMsg (lb.take (kSize lb))).length)), .ref wo])), (st, war dA 5 (t5 (hs1 (([] : List Nat) ++ keyMsg (lb.take (kSize lb))) ((([] : List Nat) ++ keyMsg (lb.take (kSize lb))).length / 64)))), (wo, war dA 80 gw_1), (bl, bar dA 64 gb_1), (o1, .inr (12, [.ref ba, .int (nI u7.1), .int (bZ u7.2)])), (o2, .inr (13, [.ref qb, .long (lN (kMade lb)), .ref q_kU4, .ref q_kU5, .ref ap, va_rf so7])), (ap, bar dA 20 (fun _ => 0)), (dg, bar dA 32 gd)] ++ (F ++ (((([] ++ [(q_kU4, bal dA (kN lb))]) ++ [(q_kU5, bal dA (kE lb))]) ++ [(qb, bal dA (lb.take (kSize lb)))]) ++ E7))) H locs := h
                  rw [List.nil_append] at h hbk_1
                  have h : Wd D B s ([(ho, .inr (2, [.ref st, .ref fi, .ref bl, .long (lN ((keyMsg (lb.take (kSize lb))).length)), .ref wo])), (st, war dA 5 (t5 (hs1 (keyMsg (lb.take (kSize lb))) ((keyMsg (lb.take (kSize lb))).length / 64)))), (wo, war dA 80 gw_1), (bl, bar dA 64 gb_1), (o1, .inr (12, [.ref ba, .int (nI u7.1), .int (bZ u7.2)])), (o2, .inr (13, [.ref qb, .long (lN (kMade lb)), .ref q_kU4, .ref q_kU5, .ref ap, va_rf so7])), (ap, bar dA 20 (fun _ => 0)), (dg, bar dA 32 gd)] ++ (F ++ (((([] ++ [(q_kU4, bal dA (kN lb))]) ++ [(q_kU5, bal dA (kE lb))]) ++ [(qb, bal dA (lb.take (kSize lb)))]) ++ E7))) H locs := h
                  refine lv_aload_n hx hb dX1_numbers_182 rfl (lv_at hl 0 rfl) ?_
                  refine o_get C h (RC := RX1) (T := TX1) (N := 14) (List.mem_append_right _ (List.mem_append_left _ hme)) rfl in_X1 5 (by decide) q313 rfl (v := .ref ho) rfl dX1_numbers_183 ?_
                  refine lv_aload_n hx hb dX1_numbers_186 rfl (lv_at hl 0 rfl) ?_
                  refine o_get C h (RC := RX1) (T := TX1) (N := 14) (List.mem_append_right _ (List.mem_append_left _ hme)) rfl in_X1 7 (by decide) q315 rfl (v := .ref dg) rfl dX1_numbers_187 ?_
                  have h : Wd D B s ([(ho, .inr (2, [.ref st, .ref fi, .ref bl, .long (lN ((keyMsg (lb.take (kSize lb))).length)), .ref wo])), (st, war dA 5 (t5 (hs1 (keyMsg (lb.take (kSize lb))) ((keyMsg (lb.take (kSize lb))).length / 64)))), (wo, war dA 80 gw_1), (bl, bar dA 64 gb_1), (dg, bar dA 32 gd), (o1, .inr (12, [.ref ba, .int (nI u7.1), .int (bZ u7.2)])), (o2, .inr (13, [.ref qb, .long (lN (kMade lb)), .ref q_kU4, .ref q_kU5, .ref ap, va_rf so7])), (ap, bar dA 20 (fun _ => 0))] ++ (F ++ (((([] ++ [(q_kU4, bal dA (kN lb))]) ++ [(q_kU5, bal dA (kE lb))]) ++ [(qb, bal dA (lb.take (kSize lb)))]) ++ E7))) H locs := h.perm [0, 1, 2, 3, 7, 4, 5, 6] rfl rfl
                  refine call_U (As := [.ref dg]) (rest := []) (n := 1) C h (c4_end l D dA B Z hZ ([(o1, .inr (12, [.ref ba, .int (nI u7.1), .int (bZ u7.2)])), (o2, .inr (13, [.ref qb, .long (lN (kMade lb)), .ref q_kU4, .ref q_kU5, .ref ap, va_rf so7])), (ap, bar dA 20 (fun _ => 0))] ++ (F ++ (((([] ++ [(q_kU4, bal dA (kN lb))]) ++ [(q_kU5, bal dA (kE lb))]) ++ [(qb, bal dA (lb.take (kSize lb)))]) ++ E7))) ho st fi bl wo gw_1 gb_1 (keyMsg (lb.take (kSize lb))) dg 32 gd hbk_1 (by rw [keyMsg_len]; omega) (by decide) (by decide)) (lw_U q1237 q1239 q1240 q1238 q134 q1242) rfl (by decide +kernel) (o_recv C h (RC := RX4) (T := TX4) (N := 5) (List.mem_of_getElem? (i := 0) rfl) rfl) (by decide) (by decide) rfl hl rfl (Nat.le_of_ble_eq_true rfl) dX1_numbers_190 (by omega) (fun u3 H locs hbk_2 h => ?_)
                  obtain ⟨gw_2, y_2, gb_2⟩ := u3
                  dsimp only at hbk_2
                  have h : Wd D B s ([(ho, .inr (2, [.ref st, .ref fi, .ref bl, .long (lN ((padded (keyMsg (lb.take (kSize lb)))).length)), .ref wo])), (st, war dA 5 (t5 (hs1 (padded (keyMsg (lb.take (kSize lb)))) ((padded (keyMsg (lb.take (kSize lb)))).length / 64)))), (wo, war dA 80 gw_2), (bl, bar dA 64 gb_2), (dg, bar dA 32 (mixF 20 (gD (sha1 (keyMsg (lb.take (kSize lb))))) gd)), (o1, .inr (12, [.ref ba, .int (nI u7.1), .int (bZ u7.2)])), (o2, .inr (13, [.ref qb, .long (lN (kMade lb)), .ref q_kU4, .ref q_kU5, .ref ap, va_rf so7])), (ap, bar dA 20 (fun _ => 0))] ++ (F ++ (((([] ++ [(q_kU4, bal dA (kN lb))]) ++ [(q_kU5, bal dA (kE lb))]) ++ [(qb, bal dA (lb.take (kSize lb)))]) ++ E7))) H locs := h
                  refine lv_aload_n hx hb dX1_numbers_193 rfl (lv_at hl 0 rfl) ?_
                  refine o_get C h (RC := RX1) (T := TX1) (N := 14) (List.mem_append_right _ (List.mem_append_left _ hme)) rfl in_X1 7 (by decide) q315 rfl (v := .ref dg) rfl dX1_numbers_194 ?_
                  refine lv_iconst (v := nI 0) hx hb dX1_numbers_197 (by decide) ?_
                  refine lv_aload hx hb dX1_numbers_198 (lv_at hl 4 rfl) ?_
                  refine o_get C h (RC := RX16) (T := TX16) (N := 6) (List.mem_of_getElem? (i := 6) rfl) rfl in_X16 4 (by decide) q1156 rfl (v := .ref ap) rfl dX1_numbers_200 ?_
                  refine lv_iconst (v := nI 0) hx hb dX1_numbers_203 (by decide) ?_
                  refine lv_bipush (v := nI 20) hx hb dX1_numbers_204 (by decide) ?_
                  refine x_copyb C h 7 (n := 20) (dp := 0) (sp := 0) (ws' := [(ho, .inr (2, [.ref st, .ref fi, .ref bl, .long (lN ((padded (keyMsg (lb.take (kSize lb)))).length)), .ref wo])), (st, war dA 5 (t5 (hs1 (padded (keyMsg (lb.take (kSize lb)))) ((padded (keyMsg (lb.take (kSize lb)))).length / 64)))), (wo, war dA 80 gw_2), (bl, bar dA 64 gb_2), (dg, bar dA 32 (mixF 20 (gD (sha1 (keyMsg (lb.take (kSize lb))))) gd)), (o1, .inr (12, [.ref ba, .int (nI u7.1), .int (bZ u7.2)])), (o2, .inr (13, [.ref qb, .long (lN (kMade lb)), .ref q_kU4, .ref q_kU5, .ref ap, va_rf so7])), (ap, bar dA 20 (va_cpy (mixF 20 (gD (sha1 (keyMsg (lb.take (kSize lb))))) gd) (fun _ => 0) 0 0 20))] ++ (F ++ (((([] ++ [(q_kU4, bal dA (kN lb))]) ++ [(q_kU5, bal dA (kE lb))]) ++ [(qb, bal dA (lb.take (kSize lb)))]) ++ E7))) (List.mem_of_getElem? (i := 4) rfl) rfl q1252 q478 q477 q145 (by omega) (by omega) (by omega) (by omega) hl.1 (by decide) (Nat.le_of_ble_eq_true rfl) rfl dX1_numbers_206 (fun H locs h => ?_)
                  refine lv_aload hx hb dX1_numbers_209 (lv_at hl 4 rfl) ?_
                  subst hQ
                  have h : Wd D B s ([(ho, .inr (2, [.ref st, .ref fi, .ref bl, .long (lN ((padded (keyMsg (lb.take (kSize lb)))).length)), .ref wo])), (st, war dA 5 (t5 (hs1 (padded (keyMsg (lb.take (kSize lb)))) ((padded (keyMsg (lb.take (kSize lb)))).length / 64)))), (wo, war dA 80 gw_2), (bl, bar dA 64 gb_2), (dg, bar dA 32 (mixF 20 (gD (sha1 (keyMsg (lb.take (kSize lb))))) gd)), (o1, .inr (12, [.ref ba, .int (nI u7.1), .int (bZ u7.2)])), (o2, .inr (13, [.ref qb, .long (lN (kMade lb)), .ref q_kU4, .ref q_kU5, .ref ap, va_rf so7])), (ap, bar dA 20 (gD (sha1 (keyMsg (lb.take (kSize lb))))))] ++ (F ++ (((([] ++ [(q_kU4, bal dA (kN lb))]) ++ [(q_kU5, bal dA (kE lb))]) ++ [(qb, bal dA (lb.take (kSize lb)))]) ++ E7))) H locs := Wd.same h 7 rfl (bar_same (fun j hj => by unfold va_cpy mixF; rw [if_pos (by omega), if_pos (by omega)]; congr 1; omega)) rfl
                  have hap : bar dA 20 (gD (sha1 (keyMsg (lb.take (kSize lb))))) = bal dA (sha1 (keyMsg (lb.take (kSize lb)))) := by show _ = bar dA (sha1 (keyMsg (lb.take (kSize lb)))).length (gD (sha1 (keyMsg (lb.take (kSize lb))))); rw [sha1_len]
                  rw [hap] at h
                  have h : Wd D B s ([(ho, .inr (2, [.ref st, .ref fi, .ref bl, .long (lN ((padded (keyMsg (lb.take (kSize lb)))).length)), .ref wo])), (st, war dA 5 (t5 (hs1 (padded (keyMsg (lb.take (kSize lb)))) ((padded (keyMsg (lb.take (kSize lb)))).length / 64)))), (wo, war dA 80 gw_2), (bl, bar dA 64 gb_2)] ++ ([(dg, bar dA 32 (mixF 20 (gD (sha1 (keyMsg (lb.take (kSize lb))))) gd))] ++ (F ++ ([(o2, .inr (13, [.ref qb, .long (lN (kMade lb)), .ref q_kU4, .ref q_kU5, .ref ap, va_rf so7])), (ap, bal dA (sha1 (keyMsg (lb.take (kSize lb))))), (o1, .inr (12, [.ref ba, .int (nI u7.1), .int (bZ u7.2)]))] ++ (((([] ++ [(q_kU4, bal dA (kN lb))]) ++ [(q_kU5, bal dA (kE lb))]) ++ [(qb, bal dA (lb.take (kSize lb)))]) ++ E7))))) H locs := h.permL (perm_add (fun g f p0 p1 p2 => by (try simp only [p0, p1, p2]) <;> omega))
                  have h : Wd D B s (h4C dA ho st fi bl wo (hs4 (padded (keyMsg (lb.take (kSize lb)))) gw_2 gw_2 gb_2) ++ ([(dg, bar dA 32 (mixF 20 (gD (sha1 (keyMsg (lb.take (kSize lb))))) gd))] ++ (F ++ ([(o2, .inr (13, [.ref qb, .long (lN (kMade lb)), .ref q_kU4, .ref q_kU5, .ref ap, va_rf so7])), (ap, bal dA (sha1 (keyMsg (lb.take (kSize lb))))), (o1, .inr (12, [.ref ba, .int (nI u7.1), .int (bZ u7.2)]))] ++ (((([] ++ [(q_kU4, bal dA (kN lb))]) ++ [(q_kU5, bal dA (kE lb))]) ++ [(qb, bal dA (lb.take (kSize lb)))]) ++ E7))))) H locs := h
                  have hgd9 : ∀ j, (mixF 20 (gD (sha1 (keyMsg (lb.take (kSize lb))))) gd) j < 256 := fun j => by unfold mixF; split; exact byt_gD (sha1_byt _) j; exact hgd0 j
                  have hNum : NumIn dA ([(o2, .inr (13, [.ref qb, .long (lN (kMade lb)), .ref q_kU4, .ref q_kU5, .ref ap, va_rf so7])), (ap, bal dA (sha1 (keyMsg (lb.take (kSize lb))))), (o1, .inr (12, [.ref ba, .int (nI u7.1), .int (bZ u7.2)]))] ++ (((([] ++ [(q_kU4, bal dA (kN lb))]) ++ [(q_kU5, bal dA (kE lb))]) ++ [(qb, bal dA (lb.take (kSize lb)))]) ++ E7)) (o2, lb.take (kSize lb), secO lb sc) := by
                    refine ⟨⟨hkb9, hkl9, keyOk_take hok hob, ?_⟩, qb, q_kU4, q_kU5, ap, so7, ?_, ?_, ?_, ?_, ?_, ?_⟩
                    · intro z hz
                      cases sc with
                      | false => cases hz
                      | true => have hz : some (kSec lb) = some z := hz; cases hz; exact ⟨hsec.1, by omega⟩
                    · show (o2, _) ∈ _
                      rw [show kMade (lb.take (kSize lb)) = kMade lb from by unfold kMade; rw [ht2]]
                      exact List.mem_append_left _ List.mem_cons_self
                    · exact List.mem_append_right _ (List.mem_append_left _ (List.mem_append_right _ List.mem_cons_self))
                    · rw [show kN (lb.take (kSize lb)) = kN lb from by unfold kN; rw [ht4]]
                      exact List.mem_append_right _ (List.mem_append_left _ (List.mem_append_left _ (List.mem_append_left _ (List.mem_append_right _ List.mem_cons_self))))
                    · rw [show kE (lb.take (kSize lb)) = kE lb from by unfold kE; rw [ht5]]
                      exact List.mem_append_right _ (List.mem_append_left _ (List.mem_append_left _ (List.mem_append_right _ List.mem_cons_self)))
                    · exact List.mem_of_getElem? (i := 1) rfl
                    · exact hr7.sub (fun b q hq => List.mem_append_right _ (List.mem_append_right _ hq))
                  have hpo : (∀ j, (mixF 20 (gD (sha1 (keyMsg (lb.take (kSize lb))))) gd) j < 256) ∧ (∀ j, j < 64 → gb_2 j < 256) ∧ (keyOk lb sc = false → some o2 = (none : Option Nat)) ∧ (keyOk lb sc = true → ∃ q, some o2 = some q ∧ NumIn dA ([(o2, .inr (13, [.ref qb, .long (lN (kMade lb)), .ref q_kU4, .ref q_kU5, .ref ap, va_rf so7])), (ap, bal dA (sha1 (keyMsg (lb.take (kSize lb))))), (o1, .inr (12, [.ref ba, .int (nI u7.1), .int (bZ u7.2)]))] ++ (((([] ++ [(q_kU4, bal dA (kN lb))]) ++ [(q_kU5, bal dA (kE lb))]) ++ [(qb, bal dA (lb.take (kSize lb)))]) ++ E7)) (q, lb.take (kSize lb), secO lb sc)) := ⟨hgd9, hbk_2.2, fun q => (by rw [hok] at q; cases q), fun _ => ⟨_, rfl, hNum⟩⟩
                  exact ret_a C hr (Or.inl ⟨_, rfl⟩) hlocks h (hs4 (padded (keyMsg (lb.take (kSize lb)))) gw_2 gw_2 gb_2, mixF 20 (gD (sha1 (keyMsg (lb.take (kSize lb))))) gd, some o2, [(o2, .inr (13, [.ref qb, .long (lN (kMade lb)), .ref q_kU4, .ref q_kU5, .ref ap, va_rf so7])), (ap, bal dA (sha1 (keyMsg (lb.take (kSize lb))))), (o1, .inr (12, [.ref ba, .int (nI u7.1), .int (bZ u7.2)]))] ++ (((([] ++ [(q_kU4, bal dA (kN lb))]) ++ [(q_kU5, bal dA (kE lb))]) ++ [(qb, bal dA (lb.take (kSize lb)))]) ++ E7)) hpo (Or.inr ⟨_, rfl⟩) rfl rfl (by omega) (by omega) dX1_numbers_211
                · refine lv_null hx hb dX1_numbers_164 ?_
                  subst hQ
                  have hno : keyOk lb sc = false := hk7.trans c161
                  have h : Wd D B s ([(ho, .inr (2, [.ref st, .ref fi, .ref bl, .long u9.1, .ref wo])), (st, war dA 5 u9.2.1), (wo, war dA 80 u9.2.2.1), (bl, bar dA 64 u9.2.2.2.2)] ++ ([(dg, bar dA 32 gd)] ++ (F ++ ([(o1, .inr (12, [.ref ba, .int (nI u7.1), .int (bZ u7.2)])), (o2, .inr (13, [.ref qb, .long (lN (kMade lb)), .ref q_kU4, .ref q_kU5, .ref ap, va_rf so7])), (ap, bar dA 20 (fun _ => 0))] ++ ((((([] ++ [(q_kU4, bal dA (kN lb))]) ++ [(q_kU5, bal dA (kE lb))]) ++ [(qb, bal dA (lb.take (kSize lb)))]) ++ E7)))))) H locs := h.permL (perm_add (fun g f p0 p1 p2 => by (try simp only [p0, p1, p2]) <;> omega))
                  have h : Wd D B s (h4C dA ho st fi bl wo u9 ++ ([(dg, bar dA 32 gd)] ++ (F ++ ([(o1, .inr (12, [.ref ba, .int (nI u7.1), .int (bZ u7.2)])), (o2, .inr (13, [.ref qb, .long (lN (kMade lb)), .ref q_kU4, .ref q_kU5, .ref ap, va_rf so7])), (ap, bar dA 20 (fun _ => 0))] ++ ((((([] ++ [(q_kU4, bal dA (kN lb))]) ++ [(q_kU5, bal dA (kE lb))]) ++ [(qb, bal dA (lb.take (kSize lb)))]) ++ E7)))))) H locs := h
                  exact ret_a C hr (Or.inl ⟨_, rfl⟩) hlocks h (u9, gd, none, [(o1, .inr (12, [.ref ba, .int (nI u7.1), .int (bZ u7.2)])), (o2, .inr (13, [.ref qb, .long (lN (kMade lb)), .ref q_kU4, .ref q_kU5, .ref ap, va_rf so7])), (ap, bar dA 20 (fun _ => 0))] ++ ((((([] ++ [(q_kU4, bal dA (kN lb))]) ++ [(q_kU5, bal dA (kE lb))]) ++ [(qb, bal dA (lb.take (kSize lb)))]) ++ E7))) (⟨hgd0, hgb0, fun _ => rfl, fun q => by rw [hno] at q; cases q⟩) (Or.inl rfl) rfl rfl (by omega) (by omega) dX1_numbers_165
              refine lv_iload_n hx hb dX1_numbers_117 rfl (lv_at hl 7 rfl) ?_
              refine z_if_eq (tgt := 157) hx hb dX1_numbers_118 (by decide) (fun c118 => ?_) (fun c118 => ?_)
              · have h : Wd D B s ([(o2, .inr (13, [.ref qb, .long (lN (kMade lb)), .ref q_kU4, .ref q_kU5, .ref ap, va_rf none])), (ap, bar dA 20 (fun _ => 0)), (o1, .inr (12, [.ref ba, .int (nI ((kU5 lb).2.1)), .int (bZ ((kU5 lb).2.2))])), (ho, .inr (2, [.ref st, .ref fi, .ref bl, .long u9.1, .ref wo])), (st, war dA 5 u9.2.1), (wo, war dA 80 u9.2.2.1), (bl, bar dA 64 u9.2.2.2.2), (dg, bar dA 32 gd)] ++ (F ++ (((([] ++ [(q_kU4, bal dA (kN lb))]) ++ [(q_kU5, bal dA (kE lb))]) ++ [(qb, bal dA (lb.take (kSize lb)))]) ++ []))) H locs := h
                exact jn (kU5 lb).2 none [] _ _ l5 (by rw [hko, if_neg (by rw [c118]; decide)]; rfl) (by unfold secO; rw [if_neg (by rw [c118]; decide)]; rfl) (by omega) (by omega) _ _ h _ (lv_sub hl [5, 6, 4, 2, 0] rfl)
              · refine lv_aload_n hx hb dX1_numbers_121 rfl (lv_at hl 4 rfl) ?_
                refine lv_aload hx hb dX1_numbers_122 (lv_at hl 0 rfl) ?_
                have h : Wd D B s ([(o1, .inr (12, [.ref ba, .int (nI ((kU5 lb).2.1)), .int (bZ ((kU5 lb).2.2))])), (o2, .inr (13, [.ref qb, .long (lN (kMade lb)), .ref q_kU4, .ref q_kU5, .ref ap, .null])), (ap, bar dA 20 (fun _ => 0)), (ho, .inr (2, [.ref st, .ref fi, .ref bl, .long u9.1, .ref wo])), (st, war dA 5 u9.2.1), (wo, war dA 80 u9.2.2.1), (bl, bar dA 64 u9.2.2.2.2), (dg, bar dA 32 gd)] ++ (F ++ (((([] ++ [(q_kU4, bal dA (kN lb))]) ++ [(q_kU5, bal dA (kE lb))]) ++ [(qb, bal dA (lb.take (kSize lb)))]) ++ []))) H locs := h.perm [2, 0, 1, 3, 4, 5, 6, 7] rfl rfl
                refine call_S (As := [.ref o1, .ref o2]) (rest := []) (n := 2) C h (c1_readSecret l D dA B Z hZ ([(ap, bar dA 20 (fun _ => 0)), (ho, .inr (2, [.ref st, .ref fi, .ref bl, .long u9.1, .ref wo])), (st, war dA 5 u9.2.1), (wo, war dA 80 u9.2.2.1), (bl, bar dA 64 u9.2.2.2.2), (dg, bar dA 32 gd)] ++ (F ++ (((([] ++ [(q_kU4, bal dA (kN lb))]) ++ [(q_kU5, bal dA (kE lb))]) ++ [(qb, bal dA (lb.take (kSize lb)))]) ++ []))) o1 o2 ba qb q_kU4 q_kU5 ap (lN (kMade lb)) lb (List.mem_append_right _ (List.mem_append_left _ hba)) hob hol l5) (lw_S q1172 q1173 q129 q1174) (by decide +kernel) (by decide) (by decide) rfl hl rfl (Nat.le_of_ble_eq_true rfl) dX1_numbers_124 (by omega) (fun u8 H locs hu8 h => ?_)
                obtain ⟨u6, so6, E8⟩ := u8
                dsimp only at hu8 h
                have h : Wd D B s ([(o2, .inr (13, [.ref qb, .long (lN (kMade lb)), .ref q_kU4, .ref q_kU5, .ref ap, va_rf so6])), (ap, bar dA 20 (fun _ => 0)), (o1, .inr (12, [.ref ba, .int (nI u6.1), .int (bZ u6.2)])), (ho, .inr (2, [.ref st, .ref fi, .ref bl, .long u9.1, .ref wo])), (st, war dA 5 u9.2.1), (wo, war dA 80 u9.2.2.1), (bl, bar dA 64 u9.2.2.2.2), (dg, bar dA 32 gd)] ++ (F ++ (((([] ++ [(q_kU4, bal dA (kN lb))]) ++ [(q_kU5, bal dA (kE lb))]) ++ [(qb, bal dA (lb.take (kSize lb)))]) ++ E8))) H locs := h.permL (perm_add (fun g f p0 p1 p2 => by (try simp only [p0, p1, p2]) <;> omega))
                refine z_if_eq (tgt := 155) hx hb dX1_numbers_127 (by decide) (fun c127 => ?_) (fun c127 => ?_)
                · refine lv_null hx hb dX1_numbers_155 ?_
                  subst hQ
                  have hno : keyOk lb sc = false := by rw [hko, if_pos c118]; first | exact kSec_no c127 | exact kSec_nb (by omega) (i_nle c152)
                  have h : Wd D B s ([(ho, .inr (2, [.ref st, .ref fi, .ref bl, .long u9.1, .ref wo])), (st, war dA 5 u9.2.1), (wo, war dA 80 u9.2.2.1), (bl, bar dA 64 u9.2.2.2.2)] ++ ([(dg, bar dA 32 gd)] ++ (F ++ ([(o2, .inr (13, [.ref qb, .long (lN (kMade lb)), .ref q_kU4, .ref q_kU5, .ref ap, va_rf so6])), (ap, bar dA 20 (fun _ => 0)), (o1, .inr (12, [.ref ba, .int (nI u6.1), .int (bZ u6.2)]))] ++ ((((([] ++ [(q_kU4, bal dA (kN lb))]) ++ [(q_kU5, bal dA (kE lb))]) ++ [(qb, bal dA (lb.take (kSize lb)))]) ++ E8)))))) H locs := h.permL (perm_add (fun g f p0 p1 p2 => by (try simp only [p0, p1, p2]) <;> omega))
                  have h : Wd D B s (h4C dA ho st fi bl wo u9 ++ ([(dg, bar dA 32 gd)] ++ (F ++ ([(o2, .inr (13, [.ref qb, .long (lN (kMade lb)), .ref q_kU4, .ref q_kU5, .ref ap, va_rf so6])), (ap, bar dA 20 (fun _ => 0)), (o1, .inr (12, [.ref ba, .int (nI u6.1), .int (bZ u6.2)]))] ++ ((((([] ++ [(q_kU4, bal dA (kN lb))]) ++ [(q_kU5, bal dA (kE lb))]) ++ [(qb, bal dA (lb.take (kSize lb)))]) ++ E8)))))) H locs := h
                  exact ret_a C hr (Or.inl ⟨_, rfl⟩) hlocks h (u9, gd, none, [(o2, .inr (13, [.ref qb, .long (lN (kMade lb)), .ref q_kU4, .ref q_kU5, .ref ap, va_rf so6])), (ap, bar dA 20 (fun _ => 0)), (o1, .inr (12, [.ref ba, .int (nI u6.1), .int (bZ u6.2)]))] ++ ((((([] ++ [(q_kU4, bal dA (kN lb))]) ++ [(q_kU5, bal dA (kE lb))]) ++ [(qb, bal dA (lb.take (kSize lb)))]) ++ E8))) (⟨hgd0, hgb0, fun _ => rfl, fun q => by rw [hno] at q; cases q⟩) (Or.inl rfl) rfl rfl (by omega) (by omega) dX1_numbers_156
                · have c127 : secR lb = true := c127
                  obtain ⟨e61, qs7, e62, hqs7⟩ := hu8 c127
                  rw [e61, e62] at h
                  have hs5l : (kS5 lb).2.1 ≤ lb.length := (someS_ok hob 2 0 0 (kS4 lb).2 (nst_le hob (numS_ok hob (kS0 lb).2 ls0).1 3) (by decide)).2.1
                  have h : Wd D B s ([(o2, .inr (13, [.ref qb, .long (lN (kMade lb)), .ref q_kU4, .ref q_kU5, .ref ap, .ref qs7])), (ap, bar dA 20 (fun _ => 0)), (o1, .inr (12, [.ref ba, .int (nI ((kS5 lb).2.1)), .int (bZ ((kS5 lb).2.2))])), (ho, .inr (2, [.ref st, .ref fi, .ref bl, .long u9.1, .ref wo])), (st, war dA 5 u9.2.1), (wo, war dA 80 u9.2.2.1), (bl, bar dA 64 u9.2.2.2.2), (dg, bar dA 32 gd)] ++ (F ++ (((([] ++ [(q_kU4, bal dA (kN lb))]) ++ [(q_kU5, bal dA (kE lb))]) ++ [(qb, bal dA (lb.take (kSize lb)))]) ++ E8))) H locs := h
                  refine lv_aload hx hb dX1_numbers_130 (lv_at hl 0 rfl) ?_
                  refine o_get C h (RC := RX16) (T := TX16) (N := 6) (List.mem_of_getElem? (i := 0) rfl) rfl in_X16 5 (by decide) q1158 rfl (v := .ref qs7) rfl dX1_numbers_132 ?_
                  refine n_balen C h (List.mem_append_right _ (List.mem_append_right _ (List.mem_append_right _ hqs7))) dX1_numbers_135 ?_
                  refine n_if_le (tgt := 157) hx hb (by omega) dX1_numbers_136 (by decide) (fun c136 => ?_) (fun c136 => ?_)
                  · have h : Wd D B s ([(o2, .inr (13, [.ref qb, .long (lN (kMade lb)), .ref q_kU4, .ref q_kU5, .ref ap, va_rf (some qs7)])), (ap, bar dA 20 (fun _ => 0)), (o1, .inr (12, [.ref ba, .int (nI ((kS5 lb).2.1)), .int (bZ ((kS5 lb).2.2))])), (ho, .inr (2, [.ref st, .ref fi, .ref bl, .long u9.1, .ref wo])), (st, war dA 5 u9.2.1), (wo, war dA 80 u9.2.2.1), (bl, bar dA 64 u9.2.2.2.2), (dg, bar dA 32 gd)] ++ (F ++ (((([] ++ [(q_kU4, bal dA (kN lb))]) ++ [(q_kU5, bal dA (kE lb))]) ++ [(qb, bal dA (lb.take (kSize lb)))]) ++ E8))) H locs := h
                    exact jn (kS5 lb).2 (some qs7) E8 _ _ hs5l (by rw [hko, if_pos c118]; exact kSec_up c127 (Or.inl (by omega))) (by unfold secO; rw [if_pos c118]; exact ⟨qs7, rfl, hqs7⟩) (by omega) (by omega) _ _ h _ (lv_sub hl [5, 6, 4, 2, 0] rfl)
                  · refine lv_aload hx hb dX1_numbers_139 (lv_at hl 0 rfl) ?_
                    refine o_get C h (RC := RX16) (T := TX16) (N := 6) (List.mem_of_getElem? (i := 0) rfl) rfl in_X16 5 (by decide) q1158 rfl (v := .ref qs7) rfl dX1_numbers_141 ?_
                    refine call_S (As := [.ref qs7]) (rest := []) (n := 1) C h (c1_bitsOf l D dA B Z hZ _ qs7 (kSec lb).length (gD (kSec lb)) (List.mem_append_right _ (List.mem_append_right _ (List.mem_append_right _ hqs7))) (by omega) (by omega) (byt_gD hsec.1 0)) (lw_S q1139 q1134 q129 q1135) (by decide +kernel) (by decide) (by decide) rfl hl rfl (Nat.le_of_ble_eq_true rfl) dX1_numbers_144 (by omega) (fun _ H locs _ h => ?_)
                    show W p l e R s m args below meth c H locs (0 + 1 + 0 + 0 + 0 + 0 + 1 + 1 + 0 + 1 + 1 + 1 + 4 + 0) (0 + 3 + 0 + 0 + 0 + 0 + ((kU4 lb).1.length) + ((kU5 lb).1.length) + 0 + 6 + ((kU5 lb).2.1) + 20 + (4 * lb.length) + 0) Q (F0 m 147 ls [.int (bitsL (kSec lb))])
                    refine lv_aload hx hb dX1_numbers_147 (lv_at hl 2 rfl) ?_
                    refine call_S (As := [.ref q_kU4]) (rest := [.int (bitsL (kSec lb))]) (n := 1) C h (c1_bitsOf l D dA B Z hZ _ q_kU4 (kN lb).length (gD (kN lb)) (List.mem_append_right _ (List.mem_append_right _ (List.mem_append_left _ (List.mem_append_left _ (List.mem_append_left _ (List.mem_append_right _ List.mem_cons_self)))))) (by omega) (by omega) (byt_gD bn 0)) (lw_S q1139 q1134 q129 q1135) (by decide +kernel) (by decide) (by decide) rfl hl rfl (Nat.le_of_ble_eq_true rfl) dX1_numbers_149 (by omega) (fun _ H locs _ h => ?_)
                    show W p l e R s m args below meth c H locs (0 + 1 + 0 + 0 + 0 + 0 + 1 + 1 + 0 + 1 + 1 + 1 + 4 + 0 + 0) (0 + 3 + 0 + 0 + 0 + 0 + ((kU4 lb).1.length) + ((kU5 lb).1.length) + 0 + 6 + ((kU5 lb).2.1) + 20 + (4 * lb.length) + 0 + 0) Q (F0 m 152 ls [.int (bitsL (kN lb)), .int (bitsL (kSec lb))])
                    refine lv_icmp_le (tgt := 157) hx hb dX1_numbers_152 (by decide) (fun c152 => ?_) (fun c152 => ?_)
                    · have h : Wd D B s ([(o2, .inr (13, [.ref qb, .long (lN (kMade lb)), .ref q_kU4, .ref q_kU5, .ref ap, va_rf (some qs7)])), (ap, bar dA 20 (fun _ => 0)), (o1, .inr (12, [.ref ba, .int (nI ((kS5 lb).2.1)), .int (bZ ((kS5 lb).2.2))])), (ho, .inr (2, [.ref st, .ref fi, .ref bl, .long u9.1, .ref wo])), (st, war dA 5 u9.2.1), (wo, war dA 80 u9.2.2.1), (bl, bar dA 64 u9.2.2.2.2), (dg, bar dA 32 gd)] ++ (F ++ (((([] ++ [(q_kU4, bal dA (kN lb))]) ++ [(q_kU5, bal dA (kE lb))]) ++ [(qb, bal dA (lb.take (kSize lb)))]) ++ E8))) H locs := h
                      exact jn (kS5 lb).2 (some qs7) E8 _ _ hs5l (by rw [hko, if_pos c118]; exact kSec_up c127 (Or.inr (i_nlt c152))) (by unfold secO; rw [if_pos c118]; exact ⟨qs7, rfl, hqs7⟩) (by omega) (by omega) _ _ h _ (lv_sub hl [5, 6, 4, 2, 0] rfl)
                    · refine lv_null hx hb dX1_numbers_155 ?_
                      subst hQ
                      have hno : keyOk lb sc = false := by rw [hko, if_pos c118]; first | exact kSec_no c127 | exact kSec_nb (by omega) (i_nle c152)
                      have h : Wd D B s ([(ho, .inr (2, [.ref st, .ref fi, .ref bl, .long u9.1, .ref wo])), (st, war dA 5 u9.2.1), (wo, war dA 80 u9.2.2.1), (bl, bar dA 64 u9.2.2.2.2)] ++ ([(dg, bar dA 32 gd)] ++ (F ++ ([(o2, .inr (13, [.ref qb, .long (lN (kMade lb)), .ref q_kU4, .ref q_kU5, .ref ap, .ref qs7])), (ap, bar dA 20 (fun _ => 0)), (o1, .inr (12, [.ref ba, .int (nI ((kS5 lb).2.1)), .int (bZ ((kS5 lb).2.2))]))] ++ ((((([] ++ [(q_kU4, bal dA (kN lb))]) ++ [(q_kU5, bal dA (kE lb))]) ++ [(qb, bal dA (lb.take (kSize lb)))]) ++ E8)))))) H locs := h.permL (perm_add (fun g f p0 p1 p2 => by (try simp only [p0, p1, p2]) <;> omega))
                      have h : Wd D B s (h4C dA ho st fi bl wo u9 ++ ([(dg, bar dA 32 gd)] ++ (F ++ ([(o2, .inr (13, [.ref qb, .long (lN (kMade lb)), .ref q_kU4, .ref q_kU5, .ref ap, .ref qs7])), (ap, bar dA 20 (fun _ => 0)), (o1, .inr (12, [.ref ba, .int (nI ((kS5 lb).2.1)), .int (bZ ((kS5 lb).2.2))]))] ++ ((((([] ++ [(q_kU4, bal dA (kN lb))]) ++ [(q_kU5, bal dA (kE lb))]) ++ [(qb, bal dA (lb.take (kSize lb)))]) ++ E8)))))) H locs := h
                      exact ret_a C hr (Or.inl ⟨_, rfl⟩) hlocks h (u9, gd, none, [(o2, .inr (13, [.ref qb, .long (lN (kMade lb)), .ref q_kU4, .ref q_kU5, .ref ap, .ref qs7])), (ap, bar dA 20 (fun _ => 0)), (o1, .inr (12, [.ref ba, .int (nI ((kS5 lb).2.1)), .int (bZ ((kS5 lb).2.2))]))] ++ ((((([] ++ [(q_kU4, bal dA (kN lb))]) ++ [(q_kU5, bal dA (kE lb))]) ++ [(qb, bal dA (lb.take (kSize lb)))]) ++ E8))) (⟨hgd0, hgb0, fun _ => rfl, fun q => by rw [hno] at q; cases q⟩) (Or.inl rfl) rfl rfl (by omega) (by omega) dX1_numbers_156
            · refine lv_null hx hb dX1_numbers_77 ?_
              subst hQ
              have hno : keyOk lb sc = false := by first | exact kO_5 c52 | exact kO_n c58 | exact kO_e c64 | exact kO_k c74
              have h : Wd D B s ([(ho, .inr (2, [.ref st, .ref fi, .ref bl, .long u9.1, .ref wo])), (st, war dA 5 u9.2.1), (wo, war dA 80 u9.2.2.1), (bl, bar dA 64 u9.2.2.2.2)] ++ ([(dg, bar dA 32 gd)] ++ (F ++ ([(o1, .inr (12, [.ref ba, .int (nI ((kU5 lb).2.1)), .int (bZ ((kU5 lb).2.2))]))] ++ (([] ++ [(q_kU4, bal dA (kN lb))]) ++ [(q_kU5, bal dA (kE lb))]))))) H locs := h.permL (perm_add (fun g f p0 p1 p2 => by (try simp only [p0, p1, p2]) <;> omega))
              have h : Wd D B s (h4C dA ho st fi bl wo u9 ++ ([(dg, bar dA 32 gd)] ++ (F ++ ([(o1, .inr (12, [.ref ba, .int (nI ((kU5 lb).2.1)), .int (bZ ((kU5 lb).2.2))]))] ++ (([] ++ [(q_kU4, bal dA (kN lb))]) ++ [(q_kU5, bal dA (kE lb))]))))) H locs := h
              exact ret_a C hr (Or.inl ⟨_, rfl⟩) hlocks h (u9, gd, none, [(o1, .inr (12, [.ref ba, .int (nI ((kU5 lb).2.1)), .int (bZ ((kU5 lb).2.2))]))] ++ (([] ++ [(q_kU4, bal dA (kN lb))]) ++ [(q_kU5, bal dA (kE lb))])) (⟨hgd0, hgb0, fun _ => rfl, fun q => by rw [hno] at q; cases q⟩) (Or.inl rfl) rfl rfl (by omega) (by omega) dX1_numbers_78
    · refine lv_null hx hb dX1_numbers_34 ?_
      subst hQ
      have hno : keyOk lb sc = false := kO_3 c31
      have h : Wd D B s ([(ho, .inr (2, [.ref st, .ref fi, .ref bl, .long u9.1, .ref wo])), (st, war dA 5 u9.2.1), (wo, war dA 80 u9.2.2.1), (bl, bar dA 64 u9.2.2.2.2)] ++ ([(dg, bar dA 32 gd)] ++ (F ++ ([(o1, .inr (12, [.ref ba, .int (nI ((kU3 lb).2.1)), .int (bZ ((kU3 lb).2.2))]))] ++ ([]))))) H locs := h.permL (perm_add (fun g f p0 p1 p2 => by (try simp only [p0, p1, p2]) <;> omega))
      have h : Wd D B s (h4C dA ho st fi bl wo u9 ++ ([(dg, bar dA 32 gd)] ++ (F ++ ([(o1, .inr (12, [.ref ba, .int (nI ((kU3 lb).2.1)), .int (bZ ((kU3 lb).2.2))]))] ++ ([]))))) H locs := h
      exact ret_a C hr (Or.inl ⟨_, rfl⟩) hlocks h (u9, gd, none, [(o1, .inr (12, [.ref ba, .int (nI ((kU3 lb).2.1)), .int (bZ ((kU3 lb).2.2))]))] ++ ([])) (⟨hgd0, hgb0, fun _ => rfl, fun q => by rw [hno] at q; cases q⟩) (Or.inl rfl) rfl rfl (by omega) (by omega) dX1_numbers_35
  · refine lv_null hx hb dX1_numbers_17 ?_
    subst hQ
    have hno : keyOk lb sc = false := kO_1 c14
    have h : Wd D B s ([(ho, .inr (2, [.ref st, .ref fi, .ref bl, .long u9.1, .ref wo])), (st, war dA 5 u9.2.1), (wo, war dA 80 u9.2.2.1), (bl, bar dA 64 u9.2.2.2.2)] ++ ([(dg, bar dA 32 gd)] ++ (F ++ ([(o1, .inr (12, [.ref ba, .int (nI ((kU1 lb).2.1)), .int (bZ ((kU1 lb).2.2))]))] ++ ([]))))) H locs := h.permL (perm_add (fun g f p0 p1 p2 => by (try simp only [p0, p1, p2]) <;> omega))
    have h : Wd D B s (h4C dA ho st fi bl wo u9 ++ ([(dg, bar dA 32 gd)] ++ (F ++ ([(o1, .inr (12, [.ref ba, .int (nI ((kU1 lb).2.1)), .int (bZ ((kU1 lb).2.2))]))] ++ ([]))))) H locs := h
    exact ret_a C hr (Or.inl ⟨_, rfl⟩) hlocks h (u9, gd, none, [(o1, .inr (12, [.ref ba, .int (nI ((kU1 lb).2.1)), .int (bZ ((kU1 lb).2.2))]))] ++ ([])) (⟨hgd0, hgb0, fun _ => rfl, fun q => by rw [hno] at q; cases q⟩) (Or.inl rfl) rfl rfl (by omega) (by omega) dX1_numbers_18
