set_option maxRecDepth 100000

theorem MSt.kl {dA : Nat → ClassId} {F F' : va_W} {ad : Nat → Nat} {M M' : MS} {tp dc ou : List Nat} {L : List PK} (h : MSt dA F ad M tp dc ou L) (hk : Kl M M') (hI : MI M') (hs : ∀ x ∈ F, x ∈ F') : MSt dA F' ad M' tp dc ou L := by
  obtain ⟨⟨a1, a2, a3⟩, ⟨b1, b2, b3⟩, ⟨c1, c2, c3⟩, ⟨d1, d2, d3⟩, ⟨e1, e2, e3, e4, e5, e6⟩, f, g, x, y, k1, k2⟩ := h
  refine ⟨⟨(hk.1 1 (by decide) (by decide)).trans a1, fun j hj => ?_, a3⟩, ⟨(hk.1 3 (by decide) (by decide)).trans b1, fun j hj => ?_, b3⟩, ⟨(hk.1 10 (by decide) (by decide)).trans c1, fun j hj => ?_, c3⟩, ⟨d1.up hs (hk.2.2.1 13 (by decide) (by decide)) (by rw [hk.2.2.2.1]) (by rw [hk.2.2.2.1]), (hk.1 12 (by decide) (by decide)).trans d2, d3⟩, ⟨(hk.2.1 13 (by decide) (by decide)).trans e1, (hk.2.1 14 (by decide) (by decide)).trans e2, (hk.2.1 15 (by decide) (by decide)).trans e3, (hk.2.1 17 (by decide) (by decide)).trans e4, (hk.2.1 18 (by decide) (by decide)).trans e5, (hk.2.1 19 (by decide) (by decide)).trans e6⟩, hI, ?_, ?_⟩
  · rw [hk.2.2.1 2 (by decide) (by decide)]; exact a2 j hj
  · rw [hk.2.2.1 4 (by decide) (by decide)]; exact b2 j hj
  · rw [hk.2.2.1 11 (by decide) (by decide)]; exact c2 j hj
  · rcases hk.2.2.2.2.1 with e | e
    · rw [e]; exact g
    · exact e
  · rcases hk.2.2.2.2.2 with ⟨e, e'⟩ | e
    · exact ⟨x, y, e.trans k1, e'.trans k2⟩
    · exact e
theorem CurR.kl {dA : Nat → ClassId} {F F' : va_W} {ad : Nat → Nat} {M M' : MS} {L : List PK} (h : CurR dA F ad M L) (hk : Kl M M') (hs : ∀ x ∈ F, x ∈ F') : CurR dA F' ad M' L :=
  ⟨h.1.up hs (hk.2.2.1 13 (by decide) (by decide)) (by rw [hk.2.2.2.1]) (by rw [hk.2.2.2.1]), (hk.1 12 (by decide) (by decide)).trans h.2.1, (hk.2.1 13 (by decide) (by decide)).trans h.2.2.1, (hk.2.1 14 (by decide) (by decide)).trans h.2.2.2.1, (hk.2.1 15 (by decide) (by decide)).trans h.2.2.2.2⟩
theorem usA_le (L : List PK) (kx tx : PK) (t q i en : Nat) : usA L kx tx t q i en ≤ 6 := by
  unfold usA
  split
  · exact Nat.le_trans (usK_le _ _ _ _ _) (by decide)
  · split
    · decide
    · split
      · decide
      · unfold usB
        split
        · decide
        · split
          · exact Nat.le_trans (byS_le _ _ _ _) (by decide)
          · split <;> decide
/-- the first place with a truth -/
def fdP (P : Nat → Bool) : Nat → Nat → Option Nat
  | 0, _ => none
  | n + 1, i => if P i = true then some i else fdP P n (i + 1)
/-- the last key ahead -/
def fdO (L : List PK) : Nat → Option Nat
  | 0 => none
  | n + 1 => if (L[n]?.map (fun x => x.1)) = some 6 then some n else fdO L n
def nmP (L : List PK) (b : List Nat) (p : Nat) : Bool := match L[p]? with
  | none => false
  | some x => (decide (x.1 = 6) || decide (x.1 = 14)) && nameOf b (sha1 (keyMsg x.2.1))
theorem nmP_s {L : List PK} {b : List Nat} {p : Nat} {x : PK} (h : L[p]? = some x) : nmP L b p = ((decide (x.1 = 6) || decide (x.1 = 14)) && nameOf b (sha1 (keyMsg x.2.1))) := by unfold nmP; rw [h]
theorem fdO_s {L : List PK} {n : Nat} {x : PK} (h : L[n]? = some x) : fdO L (n + 1) = if x.1 = 6 then some n else fdO L n := by
  rw [fdO, h, Option.map_some]
  by_cases e : x.1 = 6
  · rw [if_pos e, if_pos (congrArg some e)]
  · rw [if_neg e, if_neg (fun z => e (Option.some.inj z))]
theorem fdO_k {L : List PK} : ∀ {n q : Nat}, fdO L n = some q → q < n ∧ ∃ x, L[q]? = some x ∧ x.1 = 6 := by
  intro n
  induction n with
  | zero => intro q h; cases h
  | succ n ih =>
    intro q h
    rw [fdO] at h
    split at h
    · next e =>
      cases h
      cases z : L[n]? with
      | none => rw [z] at e; cases e
      | some x => rw [z] at e; exact ⟨Nat.lt_succ_self _, x, rfl, Option.some.inj e⟩
    · have := ih h; exact ⟨by omega, this.2⟩
theorem fdO_some {L : List PK} (h0 : ∀ x, L[0]? = some x → x.1 = 6) : ∀ {n : Nat}, 0 < n → n ≤ L.length → ∃ q, fdO L n = some q := by
  intro n
  induction n with
  | zero => intro h; exact absurd h (by decide)
  | succ n ih =>
    intro _ hl
    obtain ⟨x, hx⟩ : ∃ z, L[n]? = some z := ⟨_, List.getElem?_eq_getElem (by omega)⟩
    rw [fdO_s hx]
    by_cases e : x.1 = 6
    · exact ⟨n, by rw [if_pos e]⟩
    · rw [if_neg e]
      cases n with
      | zero => exact absurd (h0 x hx) e
      | succ n => exact ih (by omega) (by omega)
def lokU (u : Nat) : Int32 := if u = 0 then nI 0 else nI (10 + u)
def lokT (L : List PK) (b tx : List Nat) (t i : Nat) : Int32 :=
  if trueS (txS (decide (sType b = 1)) tx tx.length) b (bodyAt L i) = false then nI 3 else if t < mdN b ∨ (0 < enN b ∧ mdN b + enN b ≤ t) then nI 4 else lokU (usV L ((fdO L (i + 1)).getD 0) i t)
def lokR (L : List PK) (b tx : List Nat) (t : Nat) : Int32 :=
  if sVain b = true ∨ ((sNote b).2.2.2.2.1 = none ∧ (sNote b).2.2.2.1 = none) then nI 1 else match fdP (nmP L b) L.length 0 with
    | none => nI 2
    | some i => lokT L b tx t i
/-- thrown and told by look -/
def lokS (L : List PK) (tp dc : List Nat) (v : Int64) : Nat × Int32 := if isTm v = true then (0, if (csS tp dc).1 = 0 then lokR L (csS tp dc).2.1 (csS tp dc).2.2 (tmN v) else (csS tp dc).1) else (1, nI 0)
theorem SealIs.kp {dA : Nat → ClassId} {F : va_W} {M M' : MS} {b : List Nat} (h : SealIs dA F M b) (hk : Ks M M') : SealIs dA F M' b := by
  obtain ⟨g1, g2, g3, g4, ⟨q8, g5, g6⟩, g7, g8, g9, g10, g11, g12, g13⟩ := h
  refine ⟨(hk.1 56 (by decide)).trans g1, (hk.1 57 (by decide)).trans g2, (hk.1 58 (by decide)).trans g3, (hk.1 59 (by decide)).trans g4, ⟨q8, (hk.2.2 60 (by decide)).trans g5, g6⟩, (hk.2.1 61 (by decide)).trans g7, (hk.2.1 62 (by decide)).trans g8, (hk.2.1 63 (by decide)).trans g9, ?_, (hk.1 67 (by decide)).trans g11, (hk.1 68 (by decide)).trans g12, (hk.1 69 (by decide)).trans g13⟩
  rw [hk.2.2 64 (by decide), hk.2.2 65 (by decide), hk.2.2 66 (by decide)]; exact g10

set_option maxHeartbeats 4000000 in
set_option maxRecDepth 100000 in
theorem c7_look (l : Launch) (D : va_G) (dA : Nat → ClassId) (B : Nat) (Z : State → Prop) (hZ : Stab B Z) (h0 : Nat) (ad : Nat → Nat) (M : MS) (F : va_W) (tp dc ou : List Nat) (L : List PK) (v : Int64) (bm CA CB : Nat) (hzs : ZS dA B Z) (hzR : ∀ U : State, Z U → ∃ t, va_Z "SignetRingModel" "ROUNDS" "[I" (.ref t) (bA B) U U.heap ∧ va_T .int t 64 (fun j => .int (K2 j)) (bA B) U U.heap) (hS : MSt dA F ad M tp dc ou L) (hLl : L.length ≤ 4650) (hL0 : ∀ x, L[0]? = some x → x.1 = 6) (hbm : ∀ (j : Nat) (x : PK), L[j]? = some x → x.1 = 2 → x.2.1.length ≤ bm) (hkk : ∀ (j : Nat) (x : PK), L[j]? = some x → x.1 = 6 ∨ x.1 = 14 → 5 ≤ x.2.1.length ∧ x.2.1.length ≤ 142) (hCA : ∀ (q i : Nat) (kx tx9 : PK), L[q]? = some kx → L[i]? = some tx9 → tx9.1 = 6 ∨ tx9.1 = 14 → 3 * lsm L (nsF L q) (q + 1) + bcst 2 0 (bm / 2 + 1) (bm + 2) L q (sk (notK 6) L (q + 1) - (q + 1)) + (bm / 2 + 1) + (5 * lsm L (nsF L i) (i + 1) + (2 * bm + 12)) ≤ CA ∧ 202 * lsm L (nsF L q) (q + 1) + bcst 106 0 (5 * bm) (10 * bm) L q (sk (notK 6) L (q + 1) - (q + 1)) + 5 * bm + (308 * lsm L (nsF L i) (i + 1) + (15 * bm + (6 * tx9.2.1.length + 300))) ≤ CB) :
    Ct (S := MS × va_W) l D dA B Z yX7_look cX7_look 12 (some .int) 13 (CA + 2 * tp.length + 2 * L.length + 60) (CB + 14 * tp.length + 28 * L.length + 6500) [.ref h0, .long v] (mw dA h0 ad M ++ F) (fun u => MSt dA (F ++ u.2) ad u.1 (if isTm v = true then [] else tp) dc ou L ∧ mI u.1 0 = nI (lokS L tp dc v).1) (fun _ => some (.int (lokS L tp dc v).2)) (fun u => mw dA h0 ad u.1 ++ (F ++ u.2)) := by
  refine Ct.mk2 (by decide) (Nat.le_of_ble_eq_true rfl) hZ ?_
  intro p e R s m args below meth c ls Q C hr hlocks hin hQ hl h
  have C0 := C
  obtain ⟨hx, hb, hml, hown, hts, -⟩ := C0
  have hl : lv_has ls 12 [(0, .ref h0), (1, .long v)] := hl
  have hPK := hS.2.2.2.1.2.2
  have htl := hS.1.2.2.2
  refine lv_aload_n hx hb dX7_look_0 rfl (lv_at hl 0 rfl) ?_
  refine lv_lload_n hx hb dX7_look_1 rfl (lv_at hl 1 rfl) ?_
  refine call_S (As := [.long v]) (rest := [.ref h0]) (n := 1) C h (c7_isTime l D dA B Z hZ _ v) (lw_S q2373 q2374 q138 q2375) (by decide +kernel) (by decide) (by decide) rfl hl rfl (Nat.le_of_ble_eq_true rfl) dX7_look_2 (by omega) (fun _ H locs _ h => ?_)
  refine z_if_eq (tgt := 12) hx hb dX7_look_5 (by decide) (fun c5 => ?_) (fun c5 => ?_)
  · have hU : lokS L tp dc v = (1, nI 0) := by unfold lokS; rw [if_neg (by rw [c5]; decide)]
    have hTP : (if isTm v = true then [] else tp) = tp := if_neg (by rw [c5]; decide)
    refine lv_iconst (v := nI 1) hx hb dX7_look_12 (by decide) ?_
    refine m_pi C h 0 (v := nI 1) (by decide) rfl rfl rfl q1870 rfl rfl dX7_look_13 (fun H locs h => ?_)
    refine lv_aload_n hx hb dX7_look_16 rfl (lv_at hl 0 rfl) ?_
    refine m_gi C h 0 (by decide) rfl rfl q1870 (v := nI 1) rfl dX7_look_17 ?_
    refine n_if_le (tgt := 25) hx hb (by omega) dX7_look_20 (by decide) (fun c20 => by exfalso; omega) (fun c20 => ?_)
    refine lv_iconst (v := nI 0) hx hb dX7_look_23 (by decide) ?_
    subst hQ
    have h : Wd D B s (mw dA h0 ad (sI M 0 (nI 1)) ++ (F ++ [])) H locs := by rw [List.append_nil]; exact h
    exact ret_i C hr hlocks h (sI M 0 (nI 1), []) (⟨by rw [hTP, List.append_nil]; exact hS, by rw [hU]; rfl⟩) (by rw [hU]) rfl (by omega) (by omega) dX7_look_24
  · have hTP : (if isTm v = true then [] else tp) = [] := if_pos c5
    have hU0 : lokS L tp dc v = (0, if (csS tp dc).1 = 0 then lokR L (csS tp dc).2.1 (csS tp dc).2.2 (tmN v) else (csS tp dc).1) := by unfold lokS; rw [if_pos c5]
    obtain ⟨t, ht, hvt⟩ := isTm_t c5
    rw [show tmN v = t by rw [hvt]; exact tmN_l ht] at hU0
    have hl : lv_has ls 12 [(0, .ref h0), (1, .long (lN t))] := by rw [hvt] at hl; exact hl
    refine lv_iconst (v := nI 0) hx hb dX7_look_8 (by decide) ?_
    refine lv_goto (tgt := 13) hx hb dX7_look_9 (by decide) ?_
    refine m_pi C h 0 (v := nI 0) (by decide) rfl rfl rfl q1870 rfl rfl dX7_look_13 (fun H locs h => ?_)
    refine lv_aload_n hx hb dX7_look_16 rfl (lv_at hl 0 rfl) ?_
    refine m_gi C h 0 (by decide) rfl rfl q1870 (v := nI 0) rfl dX7_look_17 ?_
    refine n_if_le (tgt := 25) hx hb (by omega) dX7_look_20 (by decide) (fun c20 => ?_) (fun c20 => by exfalso; omega)
    refine lv_aload_n hx hb dX7_look_25 rfl (lv_at hl 0 rfl) ?_
    refine lv_iconst (v := nI 0) hx hb dX7_look_26 (by decide) ?_
    refine m_pi C h 33 (v := nI 0) (by decide) rfl rfl rfl q1903 rfl rfl dX7_look_27 (fun H locs h => ?_)
    refine lv_aload_n hx hb dX7_look_30 rfl (lv_at hl 0 rfl) ?_
    refine call_V (As := []) (rest := []) (n := 0) C h (c7_taken l D dA B Z hZ h0 ad (sI (sI M 0 (nI 0)) 33 (nI 0)) F tp.length hS.1.1) (lw_V q2108 q2110 qs43 q138 q2111) (by decide +kernel) (ci := 5) rfl rfl mw_mem0 (by decide) (by decide) rfl hl rfl (Nat.le_of_ble_eq_true rfl) dX7_look_31 (by omega) (fun _ H locs _ h => ?_)
    obtain ⟨M2, hM2⟩ : ∃ z, z = (sI (sI (sI (sI M 0 (nI 0)) 33 (nI 0)) 5 (nI tp.length)) 1 (nI 0)) := ⟨_, rfl⟩
    have h : Wd D B s (mw dA h0 ad (sI (sI (sI (sI M 0 (nI 0)) 33 (nI 0)) 5 (nI tp.length)) 1 (nI 0)) ++ F) H locs := h
    rw [← hM2] at h
    have hS2 : MSt dA F ad M2 [] dc ou L := by rw [hM2]; exact ⟨⟨rfl, fun j hj => absurd hj (Nat.not_lt_zero _), fun x hx => absurd hx List.not_mem_nil, Nat.zero_le _⟩, hS.2⟩
    have h52 : mI M2 5 = nI tp.length := by rw [hM2]; rfl
    have h332 : mI M2 33 = 0 := by rw [hM2]; rfl
    have hT2 : ∀ j, j < tp.length → mG M2 2 j = gD tp j := by rw [hM2]; exact hS.1.2.1
    have h02 : mI M2 0 = nI 0 := by rw [hM2]; rfl
    obtain ⟨fr0, to0, h372, h382⟩ := hS2.2.2.2.2.2.2.2
    refine lv_astore_n (lv' := [(3, .ref (ad 2)), (0, .ref h0), (1, .long (lN t))]) hx hb dX7_look_34 rfl hl (by decide) rfl (fun ls hl => ?_)
    refine lv_aload_n hx hb dX7_look_35 rfl (lv_at hl 1 rfl) ?_
    refine lv_aload_n hx hb dX7_look_36 rfl (lv_at hl 0 rfl) ?_
    refine lv_aload_n hx hb dX7_look_37 rfl (lv_at hl 1 rfl) ?_
    refine m_gi C h 5 (by decide) rfl rfl q1875 (v := nI tp.length) h52 dX7_look_38 ?_
    obtain ⟨cs, hcs⟩ : ∃ z, z = csS tp dc := ⟨_, rfl⟩
    rw [← hcs] at hU0
    refine call_V (As := [.ref (ad 2), .int (nI tp.length)]) (rest := []) (n := 2) C h (c7_readCase l D dA B Z hZ h0 ad M2 F tp dc fr0 to0 hzs hS2.2.2.2.2.2.1 hT2 htl hS.1.2.2.1 h332 h372 h382 hS2.2.2.2.2.2.2.1 hS2.2.1.1 hS2.2.1.2.1 hS2.2.1.2.2.1 hS2.2.1.2.2.2) (lw_V q2377 q2379 qs88 q138 q2380) (by decide +kernel) (ci := 5) rfl rfl mw_mem0 (by decide) (by decide) rfl hl rfl (Nat.le_of_ble_eq_true rfl) dX7_look_41 (by omega) (fun uc H locs huc h => ?_)
    obtain ⟨M3, E3⟩ := uc
    rw [← hcs] at huc
    obtain ⟨hI3, hKl3, h333, hc3⟩ := huc
    dsimp only at hI3 hKl3 h333 hc3
    have h : Wd D B s (mw dA h0 ad M3 ++ (F ++ E3)) H locs := h
    have hS3 : MSt dA (F ++ E3) ad M3 [] dc ou L := hS2.kl hKl3 hI3 (fun x hx => List.mem_append_left _ hx)
    have h03 : mI M3 0 = nI 0 := (hKl3.1 0 (by decide) (by decide)).trans h02
    refine lv_aload_n hx hb dX7_look_44 rfl (lv_at hl 1 rfl) ?_
    refine m_gi C h 33 (by decide) rfl rfl q1903 (v := cs.1) h333 dX7_look_45 ?_
    refine lv_if_eq (tgt := 56) hx hb dX7_look_48 (by decide) (fun c48 => ?_) (fun c48 => ?_)
    · rw [if_pos c48] at hU0
      obtain ⟨b, hb9⟩ : ∃ z, z = cs.2.1 := ⟨_, rfl⟩
      obtain ⟨ct, hct⟩ : ∃ z, z = cs.2.2 := ⟨_, rfl⟩
      have hc3 := hc3 c48
      rw [← hb9, ← hct] at hc3 hU0
      obtain ⟨⟨ca, h713, hcaF⟩, ⟨ck, hck, h723, hckg⟩, h733, ⟨hsok, hbb, hbl, -⟩, hctb, hctl⟩ := hc3
      refine lv_aload_n hx hb dX7_look_56 rfl (lv_at hl 1 rfl) ?_
      refine lv_aload_n hx hb dX7_look_57 rfl (lv_at hl 1 rfl) ?_
      refine m_gr C h 71 (by decide) rfl rfl q1941 (v := some ca) h713 dX7_look_58 ?_
      refine call_V (As := [.ref ca]) (rest := []) (n := 1) C h (c7_readSeal l D dA B Z hZ h0 ad M3 (F ++ E3) ca b hI3 hcaF hbb (by omega)) (lw_V q2344 q2346 qs83 q138 q2347) (by decide +kernel) (ci := 5) rfl rfl mw_mem0 (by decide) (by decide) rfl hl rfl (Nat.le_of_ble_eq_true rfl) dX7_look_61 (by omega) (fun us H locs hus h => ?_)
      obtain ⟨M4, E4⟩ := us
      obtain ⟨hI4, hK4, hSI4⟩ := hus
      dsimp only at hI4 hK4 hSI4
      have hSI4 := hSI4 hsok
      have h : Wd D B s (mw dA h0 ad M4 ++ (F ++ E3 ++ E4)) H locs := h
      have hKl4 : Kl M3 M4 := hK4.km.kl
      have hnb := sNote_nb hbb
      obtain ⟨hrn, hrp, -⟩ := hSI4.2.2.2.2.2.2.2.2.1
      dsimp only at hrn hrp
      have hS4 : MSt dA (F ++ E3 ++ E4) ad M4 [] dc ou L := hS3.kl hKl4 hI4 (fun x hx => List.mem_append_left _ hx)
      have h04 : mI M4 0 = nI 0 := (hK4.1 0 (by decide)).trans h03
      refine lv_istore (lv' := [(4, .int (bZ (sealOk b))), (3, .ref (ad 2)), (0, .ref h0), (1, .long (lN t))]) hx hb dX7_look_64 hl (by decide) rfl (fun ls hl => ?_)
      have jm : (sVain b = false) → (¬ ((sNote b).2.2.2.2.1 = none ∧ (sNote b).2.2.2.1 = none)) → ∀ (H : Heap) (locs : List Loc), Wd D B s (mw dA h0 ad M4 ++ (F ++ E3 ++ E4)) H locs → ∀ (ls : Array Slot), lv_has ls 12 [(0, .ref h0), (1, .long (lN t))] → W p l e R s m args below meth c H locs (0 + 0 + 0 + (tp.length + 40) + (b.length / 2 + 1)) (0 + 0 + 0 + (9 * tp.length + 4900) + (5 * b.length)) Q (F0 m 89 ls []) := by
        intro  hvn hnb9 H locs h ls hl
        have hU1 : lokS L tp dc v = (0, match fdP (nmP L b) L.length 0 with | none => nI 2 | some i => lokT L b ct t i) := by
          rw [hU0]
          unfold lokR
          rw [if_neg (fun z => z.elim (fun y => absurd (hvn.symm.trans y) (by decide)) hnb9)]
        refine lv_iconst (v := -1) hx hb dX7_look_89 (by decide) ?_
        refine lv_istore (lv' := [(5, .int (-1)), (0, .ref h0), (1, .long (lN t))]) hx hb dX7_look_90 hl (by decide) rfl (fun ls hl => ?_)
        refine lv_iconst (v := -1) hx hb dX7_look_92 (by decide) ?_
        refine lv_istore (lv' := [(6, .int (-1)), (5, .int (-1)), (0, .ref h0), (1, .long (lN t))]) hx hb dX7_look_93 hl (by decide) rfl (fun ls hl => ?_)
        refine lv_iconst (v := -1) hx hb dX7_look_95 (by decide) ?_
        refine lv_istore (lv' := [(7, .int (-1)), (6, .int (-1)), (5, .int (-1)), (0, .ref h0), (1, .long (lN t))]) hx hb dX7_look_96 hl (by decide) rfl (fun ls hl => ?_)
        refine lv_iconst (v := nI 0) hx hb dX7_look_98 (by decide) ?_
        refine lv_istore (lv' := [(8, .int (nI 0)), (7, .int (-1)), (6, .int (-1)), (5, .int (-1)), (0, .ref h0), (1, .long (lN t))]) hx hb dX7_look_99 hl (by decide) rfl (fun ls hl => ?_)
        have hmd : ∃ md, (sNote b).1 = some md := by
          cases z : (sNote b).1 with
          | some md => exact ⟨md, rfl⟩
          | none => unfold sVain at hvn; rw [z, decide_eq_true rfl, Bool.or_true] at hvn; cases hvn
        have h : Wd D B s (mw dA h0 ad M4 ++ ((F ++ E3 ++ E4) ++ [])) H locs := by rw [List.append_nil]; exact h
        have loop : ∀ (nn : Nat) (p9 cc cs9 : Nat) (M5 : MS) (E5 : va_W), (p9 ≤ L.length) → (MI M5) → (Kp M4 M5) → (SealIs dA ((F ++ E3 ++ E4) ++ E5) M5 b) → (fdP (nmP L b) L.length 0 = fdP (nmP L b) (L.length - p9) p9) → (cc ≤ 0 + 0 + 0 + (tp.length + 40) + (b.length / 2 + 1) + 2 * p9) → (cs9 ≤ 0 + 0 + 0 + (9 * tp.length + 4900) + (5 * b.length) + 28 * p9) → L.length - p9 < nn → ∀ (H : Heap) (locs : List Loc), Wd D B s (mw dA h0 ad M5 ++ ((F ++ E3 ++ E4) ++ E5)) H locs → ∀ (ls : Array Slot), lv_has ls 12 [(0, .ref h0), (1, .long (lN t)), (5, .int (-1)), (6, .int (-1)), (7, .int (oI (fdO L p9))), (8, .int (nI p9))] → W p l e R s m args below meth c H locs cc cs9 Q (F0 m 101 ls []) := by
          intro nn
          induction nn with
          | zero => intro p9 cc cs9  M5  E5  hi0 hI5 hK5 hSI5 hi5 hcc hcs9 hme; exact absurd hme (Nat.not_lt_zero _)
          | succ nn ih =>
            intro p9 cc cs9  M5  E5  hi0 hI5 hK5 hSI5 hi5 hcc hcs9 hme H locs h ls hl
            have hR5 : CurR dA ((F ++ E3 ++ E4) ++ E5) ad M5 L := hS4.cur.kp hK5 (fun z hz => List.mem_append_left _ hz)
            have hfl9 : ∀ z, fdO L p9 = some z → z < 100000 := fun z hz => by have := (fdO_k hz).1; omega
            refine lv_iload hx hb dX7_look_101 (lv_at hl 5 rfl) ?_
            refine lv_aload_n hx hb dX7_look_103 rfl (lv_at hl 0 rfl) ?_
            refine m_gi C h 12 (by decide) rfl rfl q1882 (v := nI L.length) hR5.2.1 dX7_look_104 ?_
            refine n_icmp_ge (tgt := 189) hx hb (by omega) (by omega) dX7_look_107 (by decide) (fun c107 => ?_) (fun c107 => ?_)
            · refine lv_iload hx hb dX7_look_189 (lv_at hl 3 rfl) ?_
              refine lv_iconst (v := -1) hx hb dX7_look_191 (by decide) ?_
              refine lv_icmp_ne (tgt := 197) hx hb dX7_look_192 (by decide) (fun c192 => by exfalso; exact absurd rfl c192) (fun c192 => ?_)
              refine lv_iconst (v := nI 2) hx hb dX7_look_195 (by decide) ?_
              subst hQ
              have hfd : fdP (nmP L b) L.length 0 = none := by rw [hi5, show L.length - p9 = 0 by omega]; rfl
              rw [hfd] at hU1
              have hS5 : MSt dA ((F ++ E3 ++ E4) ++ E5) ad M5 [] dc ou L := hS4.kp hK5 hI5 (fun z hz => List.mem_append_left _ hz)
              have h05 : mI M5 0 = nI 0 := (hK5.1 0 (by decide)).trans h04
              have hUU : lokS L tp dc v = (0, nI 2) := hU1
              have h : Wd D B s (mw dA h0 ad M5 ++ (F ++ (E3 ++ (E4 ++ E5)))) H locs := by (try simp only [List.append_assoc] at h ⊢); exact h
              exact ret_i C hr hlocks h (M5, (E3 ++ (E4 ++ E5))) (⟨by
                  rw [hTP]
                  (try simp only [List.append_assoc] at hS5 ⊢); exact hS5, by rw [hUU]; exact h05⟩) (by rw [hUU]) rfl (by omega) (by omega) dX7_look_196
            · refine lv_iload hx hb dX7_look_110 (lv_at hl 3 rfl) ?_
              refine lv_iconst (v := -1) hx hb dX7_look_112 (by decide) ?_
              refine lv_icmp_ne (tgt := 189) hx hb dX7_look_113 (by decide) (fun c113 => by exfalso; exact absurd rfl c113) (fun c113 => ?_)
              obtain ⟨x9, hx9⟩ : ∃ z, L[p9]? = some z := ⟨_, List.getElem?_eq_getElem (by omega)⟩
              obtain ⟨hx9k, ⟨qx, hqx, hqxF⟩, hx9s⟩ := hR5.1 _ _ hx9
              have hx9o := hPK.at hx9
              have hx91 := hx9o.1
              have hx9l := hx9o.2.2.1
              have hNP := nmP_s (b := b) hx9
              have hFO := fdO_s hx9
              have jo : ∀ (H : Heap) (locs : List Loc), Wd D B s (mw dA h0 ad M5 ++ ((F ++ E3 ++ E4) ++ E5)) H locs → ∀ (ls : Array Slot), lv_has ls 12 [(0, .ref h0), (1, .long (lN t)), (5, .int (-1)), (6, .int (-1)), (7, .int (oI (fdO L p9))), (8, .int (nI p9))] → W p l e R s m args below meth c H locs cc cs9 Q (F0 m 135 ls [.int (oI (fdO L (p9 + 1)))]) := by
                intro   H locs h ls hl
                refine lv_istore (lv' := [(7, .int (oI (fdO L (p9 + 1)))), (0, .ref h0), (1, .long (lN t)), (5, .int (-1)), (6, .int (-1)), (8, .int (nI p9))]) hx hb dX7_look_135 hl (by decide) rfl (fun ls hl => ?_)
                have jk : (x9.1 = 6 ∨ x9.1 = 14) → ∀ (H : Heap) (locs : List Loc), Wd D B s (mw dA h0 ad M5 ++ ((F ++ E3 ++ E4) ++ E5)) H locs → ∀ (ls : Array Slot), lv_has ls 12 [(7, .int (oI (fdO L (p9 + 1)))), (0, .ref h0), (1, .long (lN t)), (5, .int (-1)), (6, .int (-1)), (8, .int (nI p9))] → W p l e R s m args below meth c H locs cc cs9 Q (F0 m 161 ls []) := by
                  intro  hk614 H locs h ls hl
                  refine lv_aload_n hx hb dX7_look_161 rfl (lv_at hl 1 rfl) ?_
                  refine lv_aload_n hx hb dX7_look_162 rfl (lv_at hl 1 rfl) ?_
                  refine m_gr C h 14 (by decide) rfl rfl q1884 (v := some (ad 14)) hR5.2.2.2.1 dX7_look_163 ?_
                  refine lv_iload hx hb dX7_look_166 (lv_at hl 5 rfl) ?_
                  refine n_aald C h (v := (mA M5 14) p9) (mw_memA (k := 14) (by decide)) (show p9 < 4700 by omega) (by decide) rfl dX7_look_168 ?_
                  refine n_topv (y := .ref qx) (congrArg va_rf hqx) ?_
                  have hd614 : (decide (x9.1 = 6) || decide (x9.1 = 14)) = true := by
                    rcases hk614 with e | e
                    · rw [decide_eq_true e]; rfl
                    · rw [decide_eq_true (p := x9.1 = 14) e, Bool.or_true]
                  refine call_V (As := [.ref qx]) (rest := []) (n := 1) C h (c7_isNamed l D dA B Z hZ h0 ad M5 ((F ++ E3 ++ E4) ++ E5) qx x9.2.1 b hzR hI5 hSI5 hbb (by omega) hqxF hx9o.2.1 (by omega) hnb9) (lw_V q2399 q2401 qs93 q138 q2402) (by decide +kernel) (ci := 5) rfl rfl mw_mem0 (by decide) (by decide) rfl hl rfl (Nat.le_of_ble_eq_true rfl) dX7_look_169 (by omega) (fun un H locs hun h => ?_)
                  obtain ⟨M6, E6⟩ := un
                  obtain ⟨hI6, hK6, hSI6⟩ := hun
                  dsimp only at hI6 hK6 hSI6
                  have h : Wd D B s (mw dA h0 ad M6 ++ (((F ++ E3 ++ E4) ++ E5) ++ E6)) H locs := h
                  have hK6 := hK5.trans hK6
                  have h : Wd D B s (mw dA h0 ad M6 ++ ((F ++ E3 ++ E4) ++ (E5 ++ E6))) H locs := by rw [← List.append_assoc (F ++ E3 ++ E4)]; exact h
                  have hSI6 : SealIs dA ((F ++ E3 ++ E4) ++ (E5 ++ E6)) M6 b := by rw [← List.append_assoc (F ++ E3 ++ E4)]; exact hSI6
                  refine z_if_eq (tgt := 183) hx hb dX7_look_172 (by decide) (fun c172 => ?_) (fun c172 => ?_)
                  · have hPp : nmP L b p9 = false := by rw [hNP, c172, Bool.and_false]
                    refine lv_iinc (v := nI (p9 + 1)) (lv' := [(8, .int (nI (p9 + 1))), (7, .int (oI (fdO L (p9 + 1)))), (0, .ref h0), (1, .long (lN t)), (5, .int (-1)), (6, .int (-1))]) hx hb dX7_look_183 hl (k := 5) rfl (nI_add p9 1) (by decide) rfl (fun ls hl => ?_)
                    refine lv_goto (tgt := 101) hx hb dX7_look_186 (by decide) ?_
                    exact ih (p9 + 1) _ _ M6 (E5 ++ E6) (by omega) hI6 hK6 hSI6 (by rw [hi5, show L.length - p9 = L.length - (p9 + 1) + 1 by omega, fdP, if_neg (by rw [hPp]; decide)]) (by omega) (by omega) (by omega) _ _ h _ (lv_sub hl [2, 3, 4, 5, 1, 0] rfl)
                  · have hPp : nmP L b p9 = true := by rw [hNP, hd614, c172]; rfl
                    have hfd : fdP (nmP L b) L.length 0 = some p9 := by rw [hi5, show L.length - p9 = L.length - (p9 + 1) + 1 by omega, fdP, if_pos hPp]
                    rw [hfd] at hU1
                    obtain ⟨q, hq⟩ := fdO_some hL0 (n := p9 + 1) (by omega) (by omega)
                    obtain ⟨hqp, kx, hkx, hk6⟩ := fdO_k hq
                    have hl : lv_has ls 12 [(7, .int (nI q)), (0, .ref h0), (1, .long (lN t)), (5, .int (-1)), (6, .int (-1)), (8, .int (nI p9))] := by rw [hq] at hl; exact hl
                    obtain ⟨i, hie⟩ : ∃ z, z = p9 := ⟨_, rfl⟩
                    rw [← hie] at hl hU1 hx9 hq hi5 hqp hqx
                    have hl : lv_has ls 12 [(7, .int (nI q)), (0, .ref h0), (1, .long (lN t)), (5, .int (-1)), (6, .int (-1)), (8, .int (nI i))] := hl
                    have hil : i < L.length := by omega
                    refine lv_iload hx hb dX7_look_175 (lv_at hl 0 rfl) ?_
                    refine lv_istore (lv' := [(5, .int (nI q)), (7, .int (nI q)), (0, .ref h0), (1, .long (lN t)), (6, .int (-1)), (8, .int (nI i))]) hx hb dX7_look_177 hl (by decide) rfl (fun ls hl => ?_)
                    refine lv_iload hx hb dX7_look_179 (lv_at hl 5 rfl) ?_
                    refine lv_istore (lv' := [(6, .int (nI i)), (5, .int (nI q)), (7, .int (nI q)), (0, .ref h0), (1, .long (lN t)), (8, .int (nI i))]) hx hb dX7_look_181 hl (by decide) rfl (fun ls hl => ?_)
                    have hS6 : MSt dA ((F ++ E3 ++ E4) ++ (E5 ++ E6)) ad M6 [] dc ou L := hS4.kp hK6 hI6 (fun z hz => List.mem_append_left _ hz)
                    have h06 : mI M6 0 = nI 0 := (hK6.1 0 (by decide)).trans h04
                    have hR6 := hS6.cur
                    have h716 : mR M6 71 = some ca := (hK6.2.2.1 71 (by decide)).trans ((hK4.2.2.1 71 (by decide)).trans h713)
                    have h726 : mR M6 72 = some (ad ck) := (hK6.2.2.1 72 (by decide)).trans ((hK4.2.2.1 72 (by decide)).trans h723)
                    have h736 : mI M6 73 = nI ct.length := (hK6.1 73 (by decide)).trans ((hK4.1 73 (by decide)).trans h733)
                    have hcg6 : ∀ j, j < ct.length → mG M6 ck j = gD ct j := by
                      intro j hj
                      rw [← hckg j hj]
                      rcases hck with e | e <;> subst e
                      · rw [hK6.2.2.2.1 4 (by decide), hK4.2.2.2.1 4 (by decide)]
                      · rw [hK6.2.2.2.1 7 (by decide), hK4.2.2.2.1 7 (by decide)]
                    obtain ⟨md, hmd⟩ := hmd
                    have hmd9 := hnb.1 md hmd
                    have hmdN : mdN b = md := by unfold mdN; rw [hmd]; rfl
                    have h616 : mL M6 61 = lN md := by rw [hSI6.2.2.2.2.2.1, hmd]; rfl
                    have h626 : mL M6 62 = lN (enN b) := hSI6.2.2.2.2.2.2.1
                    have hen9 : enN b < 4294967296 := hnb.2.1
                    have hbcc : (x9.2.1 = bodyAt L i) := by unfold bodyAt; rw [hx9]; rfl
                    have hsty := sType_lt hbb
                    have hbl9 : b.length / 2 ≤ tp.length := by omega
                    have hkk9 := hkk _ _ hx9 hk614
                    refine lv_iinc (v := nI (i + 1)) (lv' := [(8, .int (nI (i + 1))), (6, .int (nI i)), (5, .int (nI q)), (7, .int (nI q)), (0, .ref h0), (1, .long (lN t))]) hx hb dX7_look_183 hl (k := 5) rfl (nI_add i 1) (by decide) rfl (fun ls hl => ?_)
                    refine lv_goto (tgt := 101) hx hb dX7_look_186 (by decide) ?_
                    refine lv_iload hx hb dX7_look_101 (lv_at hl 0 rfl) ?_
                    refine lv_aload_n hx hb dX7_look_103 rfl (lv_at hl 4 rfl) ?_
                    refine m_gi C h 12 (by decide) rfl rfl q1882 (v := nI L.length) hR6.2.1 dX7_look_104 ?_
                    refine n_icmp_ge (tgt := 189) hx hb (by omega) (by omega) dX7_look_107 (by decide) (fun c107 => ?_) (fun c107 => ?_)
                    · refine lv_iload hx hb dX7_look_189 (lv_at hl 1 rfl) ?_
                      refine lv_iconst (v := -1) hx hb dX7_look_191 (by decide) ?_
                      refine lv_icmp_ne (tgt := 197) hx hb dX7_look_192 (by decide) (fun c192 => ?_) (fun c192 => by exfalso; exact absurd ((oI_ne (o := some i) (fun z hz => by cases hz; omega)).mp c192) (by intro z; cases z))
                      refine lv_aload_n hx hb dX7_look_197 rfl (lv_at hl 4 rfl) ?_
                      refine m_gl C h 61 (by decide) rfl rfl q1931 (v := lN md) h616 dX7_look_198 ?_
                      refine lv_lstore (lv' := [(8, .long (lN md)), (6, .int (nI i)), (5, .int (nI q)), (7, .int (nI q)), (0, .ref h0), (1, .long (lN t))]) hx hb dX7_look_201 hl (by decide) rfl (fun ls hl => ?_)
                      refine lv_aload_n hx hb dX7_look_203 rfl (lv_at hl 4 rfl) ?_
                      refine lv_lload_n hx hb dX7_look_204 rfl (lv_at hl 5 rfl) ?_
                      refine call_V (As := [.long (lN t)]) (rest := []) (n := 1) C h (c7_hasEnded l D dA B Z hZ h0 ad M6 ((F ++ E3 ++ E4) ++ (E5 ++ E6)) md (enN b) t h616 h626 hmd9 hen9 ht) (lw_V q2403 q2405 qs94 q138 q2406) (by decide +kernel) (ci := 5) rfl rfl mw_mem0 (by decide) (by decide) rfl hl rfl (Nat.le_of_ble_eq_true rfl) dX7_look_205 (by omega) (fun _ H locs _ h => ?_)
                      refine lv_istore (lv' := [(10, .int (bZ (decide (0 < enN b ∧ md + enN b ≤ t)))), (8, .long (lN md)), (6, .int (nI i)), (5, .int (nI q)), (7, .int (nI q)), (0, .ref h0), (1, .long (lN t))]) hx hb dX7_look_208 hl (by decide) rfl (fun ls hl => ?_)
                      refine lv_aload_n hx hb dX7_look_210 rfl (lv_at hl 5 rfl) ?_
                      refine lv_iconst (v := nI 0) hx hb dX7_look_211 (by decide) ?_
                      refine m_pi C h 20 (v := nI 0) (by decide) rfl rfl rfl q1890 rfl rfl dX7_look_212 (fun H locs h => ?_)
                      refine lv_aload_n hx hb dX7_look_215 rfl (lv_at hl 5 rfl) ?_
                      refine lv_aload_n hx hb dX7_look_216 rfl (lv_at hl 5 rfl) ?_
                      refine m_gr C h 72 (by decide) rfl rfl q1942 (v := some (ad ck)) h726 dX7_look_217 ?_
                      refine lv_aload_n hx hb dX7_look_220 rfl (lv_at hl 5 rfl) ?_
                      refine m_gi C h 73 (by decide) rfl rfl q1943 (v := nI ct.length) h736 dX7_look_221 ?_
                      have jt : ∀ (H : Heap) (locs : List Loc), Wd D B s (mw dA h0 ad (sI M6 20 (nI 0)) ++ ((F ++ E3 ++ E4) ++ (E5 ++ E6))) H locs → ∀ (ls : Array Slot), lv_has ls 12 [(10, .int (bZ (decide (0 < enN b ∧ md + enN b ≤ t)))), (8, .long (lN md)), (6, .int (nI i)), (5, .int (nI q)), (7, .int (nI q)), (0, .ref h0), (1, .long (lN t))] → W p l e R s m args below meth c H locs (cc + 2 + 0) (cs9 + 28 + 0) Q (F0 m 237 ls [.int (bZ (decide (sType b = 1))), .int (nI ct.length), .ref (ad ck), .ref h0]) := by
                        intro   H locs h ls hl
                        refine call_V (As := [.ref (ad ck), .int (nI ct.length), .int (bZ (decide (sType b = 1)))]) (rest := []) (n := 3) C h (c7_sayText l D dA B Z hZ h0 ad (sI M6 20 (nI 0)) ((F ++ E3 ++ E4) ++ (E5 ++ E6)) (ad ck) (mlen ck) (mG M6 ck) ct (decide (sType b = 1)) 0 rfl (fun G v => by rcases hck with e | e <;> subst e <;> first | exact mw_memG (k := 4) (by decide) | exact mw_memG (k := 7) (by decide)) hcg6 (by rcases hck with e | e <;> subst e <;> exact hctl) (by rcases hck with e | e <;> subst e <;> decide) (by omega) hctb) (lw_V q2407 q2409 qs95 q138 q2410) (by decide +kernel) (ci := 5) rfl rfl mw_mem0 (by decide) (by decide) rfl hl rfl (Nat.le_of_ble_eq_true rfl) dX7_look_237 (by omega) (fun _ H locs _ h => ?_)
                        obtain ⟨ms9, hms9⟩ : ∃ z, z = txS (decide (sType b = 1)) ct ct.length := ⟨_, rfl⟩
                        have htxl := txS_len (decide (sType b = 1)) ct ct.length
                        rw [← hms9] at h htxl
                        have hmsb : byt ms9 := by rw [hms9]; exact txS_byt hctb _
                        obtain ⟨M8, hM8⟩ : ∃ z, z = apM (sI M6 20 (nI 0)) 21 20 0 ms9 := ⟨_, rfl⟩
                        have h : Wd D B s (mw dA h0 ad (apM (sI M6 20 (nI 0)) 21 20 0 ms9) ++ ((F ++ E3 ++ E4) ++ (E5 ++ E6))) H locs := h
                        rw [← hM8] at h
                        have hK8 : Kp M6 M8 := by rw [hM8]; exact ((Kp.rfl' M6).sI (k := 20) (by decide)).trans (apM_kp _ 0 ms9)
                        have hI8 : MI M8 := by rw [hM8]; exact ⟨fun j => (appG_byte hI6.1 hmsb j : appG (mG M6 21) 0 ms9 j < 256), hI6.2⟩
                        have hSI8 : SealIs dA ((F ++ E3 ++ E4) ++ (E5 ++ E6)) M8 b := by rw [hM8]; exact hSI6
                        have h208 : mI M8 20 = nI ms9.length := by rw [hM8]; exact congrArg nI (Nat.zero_add _)
                        have hms8 : sl (mG M8 21) 0 ms9.length = ms9 := by
                          rw [hM8]
                          have e := sl_appG (mG M6 21) 0 ms9
                          rw [Nat.zero_add] at e; exact e
                        have hR8 : CurR dA ((F ++ E3 ++ E4) ++ (E5 ++ E6)) ad M8 L := hR6.kp hK8 (fun z hz => hz)
                        have h718 : mR M8 71 = some ca := (hK8.2.2.1 71 (by decide)).trans h716
                        obtain ⟨hx8k, ⟨qx8, hqx8, hqx8F⟩, -⟩ := hR8.1 _ _ hx9
                        refine lv_aload_n hx hb dX7_look_240 rfl (lv_at hl 5 rfl) ?_
                        refine lv_aload_n hx hb dX7_look_241 rfl (lv_at hl 5 rfl) ?_
                        refine m_gr C h 71 (by decide) rfl rfl q1941 (v := some ca) h718 dX7_look_242 ?_
                        refine lv_aload_n hx hb dX7_look_245 rfl (lv_at hl 5 rfl) ?_
                        refine m_gr C h 14 (by decide) rfl rfl q1884 (v := some (ad 14)) hR8.2.2.2.1 dX7_look_246 ?_
                        refine lv_iload hx hb dX7_look_249 (lv_at hl 2 rfl) ?_
                        refine n_aald C h (v := (mA M8 14) i) (mw_memA (k := 14) (by decide)) (show i < 4700 by omega) (by decide) rfl dX7_look_251 ?_
                        refine n_topv (y := .ref qx8) (congrArg va_rf hqx8) ?_
                        have hcaF6 : (ca, ial dA b) ∈ ((F ++ E3 ++ E4) ++ (E5 ++ E6)) := List.mem_append_left _ (List.mem_append_left _ hcaF)
                        refine call_V (As := [.ref ca, .ref qx8]) (rest := []) (n := 2) C h (c7_isTrue l D dA B Z hZ h0 ad M8 ((F ++ E3 ++ E4) ++ (E5 ++ E6)) ms9 b x9.2.1 ca qx8 hzR hI8 h208 hms8 (by omega) hSI8 hcaF6 hbb (by omega) hqx8F hx9o.2.1 (by omega)) (lw_V q2411 q2413 qs96 q138 q2414) (by decide +kernel) (ci := 5) rfl rfl mw_mem0 (by decide) (by decide) rfl hl rfl (Nat.le_of_ble_eq_true rfl) dX7_look_252 (by
                          have hkk9 := hkk _ _ hx9 hk614
                          omega) (fun ut H locs hut h => ?_)
                        obtain ⟨M9, E9⟩ := ut
                        obtain ⟨hI9, hK9, hKs9⟩ := hut
                        dsimp only at hI9 hK9 hKs9
                        have h : Wd D B s (mw dA h0 ad M9 ++ (((F ++ E3 ++ E4) ++ (E5 ++ E6)) ++ E9)) H locs := h
                        have hS9 : MSt dA (((F ++ E3 ++ E4) ++ (E5 ++ E6)) ++ E9) ad M9 [] dc ou L := hS6.kp (hK8.trans hK9) hI9 (fun z hz => List.mem_append_left _ hz)
                        have h09 : mI M9 0 = nI 0 := ((hK8.trans hK9).1 0 (by decide)).trans h06
                        have hLT : lokT L b ct t i = if trueS ms9 b x9.2.1 = false then nI 3 else if t < md ∨ (0 < enN b ∧ md + enN b ≤ t) then nI 4 else lokU (usV L q i t) := by unfold lokT; rw [← hbcc, ← hms9, hmdN, hq]; rfl
                        refine z_if_ne (tgt := 260) hx hb dX7_look_255 (by decide) (fun c255 => ?_) (fun c255 => ?_)
                        · rw [if_neg (by rw [c255]; decide)] at hLT
                          refine lv_lload hx hb dX7_look_260 (lv_at hl 1 rfl) ?_
                          refine lv_lload_n hx hb dX7_look_262 rfl (lv_at hl 6 rfl) ?_
                          refine n_lcmp_gt (tgt := 272) hx hb (by omega) (by omega) dX7_look_263 dX7_look_264 (by decide) (fun c263 => ?_) (fun c263 => ?_)
                          · have hU2 : lokS L tp dc v = (0, nI 4) := by rw [hU1]; show (0, lokT L b ct t i) = _; rw [hLT, if_pos (Or.inl c263)]
                            refine lv_iconst (v := nI 4) hx hb dX7_look_272 (by decide) ?_
                            subst hQ
                            have hUU := hU2
                            have h : Wd D B s (mw dA h0 ad M9 ++ (F ++ (E3 ++ (E4 ++ (E5 ++ (E6 ++ E9)))))) H locs := by (try simp only [List.append_assoc] at h ⊢); exact h
                            exact ret_i C hr hlocks h (M9, (E3 ++ (E4 ++ (E5 ++ (E6 ++ E9))))) (⟨by
                                rw [hTP]
                                (try simp only [List.append_assoc] at hS9 ⊢); exact hS9, by rw [hUU]; exact h09⟩) (by rw [hUU]) rfl (by omega) (by omega) dX7_look_273
                          · refine lv_iload hx hb dX7_look_267 (lv_at hl 0 rfl) ?_
                            refine z_if_eq (tgt := 274) hx hb dX7_look_269 (by decide) (fun c269 => ?_) (fun c269 => ?_)
                            · rw [if_neg (fun z => z.elim (fun y => absurd y (by omega)) (of_decide_eq_false c269))] at hLT
                              refine lv_aload_n hx hb dX7_look_274 rfl (lv_at hl 5 rfl) ?_
                              refine lv_iload hx hb dX7_look_275 (lv_at hl 3 rfl) ?_
                              refine lv_iload hx hb dX7_look_277 (lv_at hl 2 rfl) ?_
                              refine lv_lload_n hx hb dX7_look_279 rfl (lv_at hl 6 rfl) ?_
                              have hkq := hkk _ _ hkx (Or.inl hk6)
                              have hkt := hkk _ _ hx9 hk614
                              have hca := hCA q i kx x9 hkx hx9 hk614
                              have hsl9 := sk_le (P := notK 6) (L := L) (q := q + 1) (by omega)
                              have hsg9 := sk_ge (P := notK 6) (L := L) (q := q + 1)
                              have huv := usV_s (t := t) hkx hx9
                              refine call_V (As := [.int (nI q), .int (nI i), .long (lN t)]) (rest := []) (n := 3) C h (c7_usableAt l D dA B Z hZ h0 ad M9 (((F ++ E3 ++ E4) ++ (E5 ++ E6)) ++ E9) L q i t bm (sk (notK 6) L (q + 1) - (q + 1)) kx x9 hzR hI9 hS9.cur hPK hLl (by omega) hkx hkq.1 hkq.2 ht hbm hx9 hkt.1) (lw_V q2444 q2446 qs102 q138 q2447) (by decide +kernel) (ci := 5) rfl rfl mw_mem0 (by decide) (by decide) rfl hl rfl (Nat.le_of_ble_eq_true rfl) dX7_look_280 (by
                                have hkk9 := hkk _ _ hx9 hk614
                                have hca1 := hca.1
                                have hca2 := hca.2
                                omega) (fun ua H locs hua h => ?_)
                              obtain ⟨MA, EA⟩ := ua
                              have hIA : MI MA := hua.1
                              have hKA : Kp M9 MA := hua.2
                              have h : Wd D B s (mw dA h0 ad MA ++ ((((F ++ E3 ++ E4) ++ (E5 ++ E6)) ++ E9) ++ EA)) H locs := h
                              have hSA : MSt dA ((((F ++ E3 ++ E4) ++ (E5 ++ E6)) ++ E9) ++ EA) ad MA [] dc ou L := hS9.kp hKA hIA (fun z hz => List.mem_append_left _ hz)
                              have h0A : mI MA 0 = nI 0 := (hKA.1 0 (by decide)).trans h09
                              obtain ⟨uu, huu⟩ : ∃ z, z = usA L kx x9 t q i (sk (notK 6) L (q + 1) - (q + 1)) := ⟨_, rfl⟩
                              rw [← huu] at huv
                              rw [← huu]
                              have huul : uu ≤ 6 := by rw [huu]; exact usA_le _ _ _ _ _ _ _
                              rw [huv] at hLT
                              refine lv_istore (lv' := [(11, .int (nI uu)), (10, .int (bZ (decide (0 < enN b ∧ md + enN b ≤ t)))), (8, .long (lN md)), (6, .int (nI i)), (5, .int (nI q)), (7, .int (nI q)), (0, .ref h0), (1, .long (lN t))]) hx hb dX7_look_283 hl (by decide) rfl (fun ls hl => ?_)
                              refine lv_iload hx hb dX7_look_285 (lv_at hl 0 rfl) ?_
                              refine n_if_ne (tgt := 294) hx hb (by omega) dX7_look_287 (by decide) (fun c287 => ?_) (fun c287 => ?_)
                              · refine lv_bipush (v := nI 10) hx hb dX7_look_294 (by decide) ?_
                                refine lv_iload hx hb dX7_look_296 (lv_at hl 0 rfl) ?_
                                refine lv_iadd hx hb dX7_look_298 (n_top (y := nI (10 + uu)) (nI_add 10 uu) ?_)
                                subst hQ
                                have hUU : lokS L tp dc v = (0, nI (10 + uu)) := by
                                  rw [hU1]
                                  show (0, lokT L b ct t i) = _
                                  rw [hLT]
                                  unfold lokU
                                  first | rw [if_pos c287] | rw [if_neg c287]
                                have h : Wd D B s (mw dA h0 ad MA ++ (F ++ (E3 ++ (E4 ++ (E5 ++ (E6 ++ (E9 ++ EA))))))) H locs := by (try simp only [List.append_assoc] at h ⊢); exact h
                                exact ret_i C hr hlocks h (MA, (E3 ++ (E4 ++ (E5 ++ (E6 ++ (E9 ++ EA)))))) (⟨by
                                    rw [hTP]
                                    (try simp only [List.append_assoc] at hSA ⊢); exact hSA, by rw [hUU]; exact h0A⟩) (by rw [hUU]) rfl (by omega) (by omega) dX7_look_299
                              · refine lv_iconst (v := nI 0) hx hb dX7_look_290 (by decide) ?_
                                refine lv_goto (tgt := 299) hx hb dX7_look_291 (by decide) ?_
                                subst hQ
                                have hUU : lokS L tp dc v = (0, nI 0) := by
                                  rw [hU1]
                                  show (0, lokT L b ct t i) = _
                                  rw [hLT]
                                  unfold lokU
                                  first | rw [if_pos c287] | rw [if_neg c287]
                                have h : Wd D B s (mw dA h0 ad MA ++ (F ++ (E3 ++ (E4 ++ (E5 ++ (E6 ++ (E9 ++ EA))))))) H locs := by (try simp only [List.append_assoc] at h ⊢); exact h
                                exact ret_i C hr hlocks h (MA, (E3 ++ (E4 ++ (E5 ++ (E6 ++ (E9 ++ EA)))))) (⟨by
                                    rw [hTP]
                                    (try simp only [List.append_assoc] at hSA ⊢); exact hSA, by rw [hUU]; exact h0A⟩) (by rw [hUU]) rfl (by omega) (by omega) dX7_look_299
                            · have hU2 : lokS L tp dc v = (0, nI 4) := by rw [hU1]; show (0, lokT L b ct t i) = _; rw [hLT, if_pos (Or.inr (of_decide_eq_true c269))]
                              refine lv_iconst (v := nI 4) hx hb dX7_look_272 (by decide) ?_
                              subst hQ
                              have hUU := hU2
                              have h : Wd D B s (mw dA h0 ad M9 ++ (F ++ (E3 ++ (E4 ++ (E5 ++ (E6 ++ E9)))))) H locs := by (try simp only [List.append_assoc] at h ⊢); exact h
                              exact ret_i C hr hlocks h (M9, (E3 ++ (E4 ++ (E5 ++ (E6 ++ E9))))) (⟨by
                                  rw [hTP]
                                  (try simp only [List.append_assoc] at hS9 ⊢); exact hS9, by rw [hUU]; exact h09⟩) (by rw [hUU]) rfl (by omega) (by omega) dX7_look_273
                        · have hU2 : lokS L tp dc v = (0, nI 3) := by rw [hU1]; show (0, lokT L b ct t i) = _; rw [hLT, if_pos c255]
                          refine lv_iconst (v := nI 3) hx hb dX7_look_258 (by decide) ?_
                          subst hQ
                          have hUU := hU2
                          have h : Wd D B s (mw dA h0 ad M9 ++ (F ++ (E3 ++ (E4 ++ (E5 ++ (E6 ++ E9)))))) H locs := by (try simp only [List.append_assoc] at h ⊢); exact h
                          exact ret_i C hr hlocks h (M9, (E3 ++ (E4 ++ (E5 ++ (E6 ++ E9))))) (⟨by
                              rw [hTP]
                              (try simp only [List.append_assoc] at hS9 ⊢); exact hS9, by rw [hUU]; exact h09⟩) (by rw [hUU]) rfl (by omega) (by omega) dX7_look_259
                      refine lv_aload_n hx hb dX7_look_224 rfl (lv_at hl 5 rfl) ?_
                      refine m_gi C h 56 (by decide) rfl rfl q1926 (v := nI (sType b)) hSI6.1 dX7_look_225 ?_
                      refine lv_iconst (v := nI 1) hx hb dX7_look_228 (by decide) ?_
                      refine n_icmp_ne (tgt := 236) hx hb (by omega) (by omega) dX7_look_229 (by decide) (fun c229 => ?_) (fun c229 => ?_)
                      · refine lv_iconst (v := nI 0) hx hb dX7_look_236 (by decide) ?_
                        refine n_top (y := bZ (decide (sType b = 1))) (by rw [decide_eq_false c229]; rfl) ?_
                        exact jt   _ _ h _ (lv_sub hl [0, 1, 2, 3, 4, 5, 6] rfl)
                      · refine lv_iconst (v := nI 1) hx hb dX7_look_232 (by decide) ?_
                        refine lv_goto (tgt := 237) hx hb dX7_look_233 (by decide) ?_
                        refine n_top (y := bZ (decide (sType b = 1))) (by rw [decide_eq_true c229]; rfl) ?_
                        exact jt   _ _ h _ (lv_sub hl [0, 1, 2, 3, 4, 5, 6] rfl)
                    · refine lv_iload hx hb dX7_look_110 (lv_at hl 1 rfl) ?_
                      refine lv_iconst (v := -1) hx hb dX7_look_112 (by decide) ?_
                      refine lv_icmp_ne (tgt := 189) hx hb dX7_look_113 (by decide) (fun c113 => ?_) (fun c113 => by exfalso; exact absurd ((oI_ne (o := some i) (fun z hz => by cases hz; omega)).mp c113) (by intro z; cases z))
                      refine lv_iload hx hb dX7_look_189 (lv_at hl 1 rfl) ?_
                      refine lv_iconst (v := -1) hx hb dX7_look_191 (by decide) ?_
                      refine lv_icmp_ne (tgt := 197) hx hb dX7_look_192 (by decide) (fun c192 => ?_) (fun c192 => by exfalso; exact absurd ((oI_ne (o := some i) (fun z hz => by cases hz; omega)).mp c192) (by intro z; cases z))
                      refine lv_aload_n hx hb dX7_look_197 rfl (lv_at hl 4 rfl) ?_
                      refine m_gl C h 61 (by decide) rfl rfl q1931 (v := lN md) h616 dX7_look_198 ?_
                      refine lv_lstore (lv' := [(8, .long (lN md)), (6, .int (nI i)), (5, .int (nI q)), (7, .int (nI q)), (0, .ref h0), (1, .long (lN t))]) hx hb dX7_look_201 hl (by decide) rfl (fun ls hl => ?_)
                      refine lv_aload_n hx hb dX7_look_203 rfl (lv_at hl 4 rfl) ?_
                      refine lv_lload_n hx hb dX7_look_204 rfl (lv_at hl 5 rfl) ?_
                      refine call_V (As := [.long (lN t)]) (rest := []) (n := 1) C h (c7_hasEnded l D dA B Z hZ h0 ad M6 ((F ++ E3 ++ E4) ++ (E5 ++ E6)) md (enN b) t h616 h626 hmd9 hen9 ht) (lw_V q2403 q2405 qs94 q138 q2406) (by decide +kernel) (ci := 5) rfl rfl mw_mem0 (by decide) (by decide) rfl hl rfl (Nat.le_of_ble_eq_true rfl) dX7_look_205 (by omega) (fun _ H locs _ h => ?_)
                      refine lv_istore (lv' := [(10, .int (bZ (decide (0 < enN b ∧ md + enN b ≤ t)))), (8, .long (lN md)), (6, .int (nI i)), (5, .int (nI q)), (7, .int (nI q)), (0, .ref h0), (1, .long (lN t))]) hx hb dX7_look_208 hl (by decide) rfl (fun ls hl => ?_)
                      refine lv_aload_n hx hb dX7_look_210 rfl (lv_at hl 5 rfl) ?_
                      refine lv_iconst (v := nI 0) hx hb dX7_look_211 (by decide) ?_
                      refine m_pi C h 20 (v := nI 0) (by decide) rfl rfl rfl q1890 rfl rfl dX7_look_212 (fun H locs h => ?_)
                      refine lv_aload_n hx hb dX7_look_215 rfl (lv_at hl 5 rfl) ?_
                      refine lv_aload_n hx hb dX7_look_216 rfl (lv_at hl 5 rfl) ?_
                      refine m_gr C h 72 (by decide) rfl rfl q1942 (v := some (ad ck)) h726 dX7_look_217 ?_
                      refine lv_aload_n hx hb dX7_look_220 rfl (lv_at hl 5 rfl) ?_
                      refine m_gi C h 73 (by decide) rfl rfl q1943 (v := nI ct.length) h736 dX7_look_221 ?_
                      have jt : ∀ (H : Heap) (locs : List Loc), Wd D B s (mw dA h0 ad (sI M6 20 (nI 0)) ++ ((F ++ E3 ++ E4) ++ (E5 ++ E6))) H locs → ∀ (ls : Array Slot), lv_has ls 12 [(10, .int (bZ (decide (0 < enN b ∧ md + enN b ≤ t)))), (8, .long (lN md)), (6, .int (nI i)), (5, .int (nI q)), (7, .int (nI q)), (0, .ref h0), (1, .long (lN t))] → W p l e R s m args below meth c H locs (cc + 2 + 0) (cs9 + 28 + 0) Q (F0 m 237 ls [.int (bZ (decide (sType b = 1))), .int (nI ct.length), .ref (ad ck), .ref h0]) := by
                        intro   H locs h ls hl
                        refine call_V (As := [.ref (ad ck), .int (nI ct.length), .int (bZ (decide (sType b = 1)))]) (rest := []) (n := 3) C h (c7_sayText l D dA B Z hZ h0 ad (sI M6 20 (nI 0)) ((F ++ E3 ++ E4) ++ (E5 ++ E6)) (ad ck) (mlen ck) (mG M6 ck) ct (decide (sType b = 1)) 0 rfl (fun G v => by rcases hck with e | e <;> subst e <;> first | exact mw_memG (k := 4) (by decide) | exact mw_memG (k := 7) (by decide)) hcg6 (by rcases hck with e | e <;> subst e <;> exact hctl) (by rcases hck with e | e <;> subst e <;> decide) (by omega) hctb) (lw_V q2407 q2409 qs95 q138 q2410) (by decide +kernel) (ci := 5) rfl rfl mw_mem0 (by decide) (by decide) rfl hl rfl (Nat.le_of_ble_eq_true rfl) dX7_look_237 (by omega) (fun _ H locs _ h => ?_)
                        obtain ⟨ms9, hms9⟩ : ∃ z, z = txS (decide (sType b = 1)) ct ct.length := ⟨_, rfl⟩
                        have htxl := txS_len (decide (sType b = 1)) ct ct.length
                        rw [← hms9] at h htxl
                        have hmsb : byt ms9 := by rw [hms9]; exact txS_byt hctb _
                        obtain ⟨M8, hM8⟩ : ∃ z, z = apM (sI M6 20 (nI 0)) 21 20 0 ms9 := ⟨_, rfl⟩
                        have h : Wd D B s (mw dA h0 ad (apM (sI M6 20 (nI 0)) 21 20 0 ms9) ++ ((F ++ E3 ++ E4) ++ (E5 ++ E6))) H locs := h
                        rw [← hM8] at h
                        have hK8 : Kp M6 M8 := by rw [hM8]; exact ((Kp.rfl' M6).sI (k := 20) (by decide)).trans (apM_kp _ 0 ms9)
                        have hI8 : MI M8 := by rw [hM8]; exact ⟨fun j => (appG_byte hI6.1 hmsb j : appG (mG M6 21) 0 ms9 j < 256), hI6.2⟩
                        have hSI8 : SealIs dA ((F ++ E3 ++ E4) ++ (E5 ++ E6)) M8 b := by rw [hM8]; exact hSI6
                        have h208 : mI M8 20 = nI ms9.length := by rw [hM8]; exact congrArg nI (Nat.zero_add _)
                        have hms8 : sl (mG M8 21) 0 ms9.length = ms9 := by
                          rw [hM8]
                          have e := sl_appG (mG M6 21) 0 ms9
                          rw [Nat.zero_add] at e; exact e
                        have hR8 : CurR dA ((F ++ E3 ++ E4) ++ (E5 ++ E6)) ad M8 L := hR6.kp hK8 (fun z hz => hz)
                        have h718 : mR M8 71 = some ca := (hK8.2.2.1 71 (by decide)).trans h716
                        obtain ⟨hx8k, ⟨qx8, hqx8, hqx8F⟩, -⟩ := hR8.1 _ _ hx9
                        refine lv_aload_n hx hb dX7_look_240 rfl (lv_at hl 5 rfl) ?_
                        refine lv_aload_n hx hb dX7_look_241 rfl (lv_at hl 5 rfl) ?_
                        refine m_gr C h 71 (by decide) rfl rfl q1941 (v := some ca) h718 dX7_look_242 ?_
                        refine lv_aload_n hx hb dX7_look_245 rfl (lv_at hl 5 rfl) ?_
                        refine m_gr C h 14 (by decide) rfl rfl q1884 (v := some (ad 14)) hR8.2.2.2.1 dX7_look_246 ?_
                        refine lv_iload hx hb dX7_look_249 (lv_at hl 2 rfl) ?_
                        refine n_aald C h (v := (mA M8 14) i) (mw_memA (k := 14) (by decide)) (show i < 4700 by omega) (by decide) rfl dX7_look_251 ?_
                        refine n_topv (y := .ref qx8) (congrArg va_rf hqx8) ?_
                        have hcaF6 : (ca, ial dA b) ∈ ((F ++ E3 ++ E4) ++ (E5 ++ E6)) := List.mem_append_left _ (List.mem_append_left _ hcaF)
                        refine call_V (As := [.ref ca, .ref qx8]) (rest := []) (n := 2) C h (c7_isTrue l D dA B Z hZ h0 ad M8 ((F ++ E3 ++ E4) ++ (E5 ++ E6)) ms9 b x9.2.1 ca qx8 hzR hI8 h208 hms8 (by omega) hSI8 hcaF6 hbb (by omega) hqx8F hx9o.2.1 (by omega)) (lw_V q2411 q2413 qs96 q138 q2414) (by decide +kernel) (ci := 5) rfl rfl mw_mem0 (by decide) (by decide) rfl hl rfl (Nat.le_of_ble_eq_true rfl) dX7_look_252 (by
                          have hkk9 := hkk _ _ hx9 hk614
                          omega) (fun ut H locs hut h => ?_)
                        obtain ⟨M9, E9⟩ := ut
                        obtain ⟨hI9, hK9, hKs9⟩ := hut
                        dsimp only at hI9 hK9 hKs9
                        have h : Wd D B s (mw dA h0 ad M9 ++ (((F ++ E3 ++ E4) ++ (E5 ++ E6)) ++ E9)) H locs := h
                        have hS9 : MSt dA (((F ++ E3 ++ E4) ++ (E5 ++ E6)) ++ E9) ad M9 [] dc ou L := hS6.kp (hK8.trans hK9) hI9 (fun z hz => List.mem_append_left _ hz)
                        have h09 : mI M9 0 = nI 0 := ((hK8.trans hK9).1 0 (by decide)).trans h06
                        have hLT : lokT L b ct t i = if trueS ms9 b x9.2.1 = false then nI 3 else if t < md ∨ (0 < enN b ∧ md + enN b ≤ t) then nI 4 else lokU (usV L q i t) := by unfold lokT; rw [← hbcc, ← hms9, hmdN, hq]; rfl
                        refine z_if_ne (tgt := 260) hx hb dX7_look_255 (by decide) (fun c255 => ?_) (fun c255 => ?_)
                        · rw [if_neg (by rw [c255]; decide)] at hLT
                          refine lv_lload hx hb dX7_look_260 (lv_at hl 1 rfl) ?_
                          refine lv_lload_n hx hb dX7_look_262 rfl (lv_at hl 6 rfl) ?_
                          refine n_lcmp_gt (tgt := 272) hx hb (by omega) (by omega) dX7_look_263 dX7_look_264 (by decide) (fun c263 => ?_) (fun c263 => ?_)
                          · have hU2 : lokS L tp dc v = (0, nI 4) := by rw [hU1]; show (0, lokT L b ct t i) = _; rw [hLT, if_pos (Or.inl c263)]
                            refine lv_iconst (v := nI 4) hx hb dX7_look_272 (by decide) ?_
                            subst hQ
                            have hUU := hU2
                            have h : Wd D B s (mw dA h0 ad M9 ++ (F ++ (E3 ++ (E4 ++ (E5 ++ (E6 ++ E9)))))) H locs := by (try simp only [List.append_assoc] at h ⊢); exact h
                            exact ret_i C hr hlocks h (M9, (E3 ++ (E4 ++ (E5 ++ (E6 ++ E9))))) (⟨by
                                rw [hTP]
                                (try simp only [List.append_assoc] at hS9 ⊢); exact hS9, by rw [hUU]; exact h09⟩) (by rw [hUU]) rfl (by omega) (by omega) dX7_look_273
                          · refine lv_iload hx hb dX7_look_267 (lv_at hl 0 rfl) ?_
                            refine z_if_eq (tgt := 274) hx hb dX7_look_269 (by decide) (fun c269 => ?_) (fun c269 => ?_)
                            · rw [if_neg (fun z => z.elim (fun y => absurd y (by omega)) (of_decide_eq_false c269))] at hLT
                              refine lv_aload_n hx hb dX7_look_274 rfl (lv_at hl 5 rfl) ?_
                              refine lv_iload hx hb dX7_look_275 (lv_at hl 3 rfl) ?_
                              refine lv_iload hx hb dX7_look_277 (lv_at hl 2 rfl) ?_
                              refine lv_lload_n hx hb dX7_look_279 rfl (lv_at hl 6 rfl) ?_
                              have hkq := hkk _ _ hkx (Or.inl hk6)
                              have hkt := hkk _ _ hx9 hk614
                              have hca := hCA q i kx x9 hkx hx9 hk614
                              have hsl9 := sk_le (P := notK 6) (L := L) (q := q + 1) (by omega)
                              have hsg9 := sk_ge (P := notK 6) (L := L) (q := q + 1)
                              have huv := usV_s (t := t) hkx hx9
                              refine call_V (As := [.int (nI q), .int (nI i), .long (lN t)]) (rest := []) (n := 3) C h (c7_usableAt l D dA B Z hZ h0 ad M9 (((F ++ E3 ++ E4) ++ (E5 ++ E6)) ++ E9) L q i t bm (sk (notK 6) L (q + 1) - (q + 1)) kx x9 hzR hI9 hS9.cur hPK hLl (by omega) hkx hkq.1 hkq.2 ht hbm hx9 hkt.1) (lw_V q2444 q2446 qs102 q138 q2447) (by decide +kernel) (ci := 5) rfl rfl mw_mem0 (by decide) (by decide) rfl hl rfl (Nat.le_of_ble_eq_true rfl) dX7_look_280 (by
                                have hkk9 := hkk _ _ hx9 hk614
                                have hca1 := hca.1
                                have hca2 := hca.2
                                omega) (fun ua H locs hua h => ?_)
                              obtain ⟨MA, EA⟩ := ua
                              have hIA : MI MA := hua.1
                              have hKA : Kp M9 MA := hua.2
                              have h : Wd D B s (mw dA h0 ad MA ++ ((((F ++ E3 ++ E4) ++ (E5 ++ E6)) ++ E9) ++ EA)) H locs := h
                              have hSA : MSt dA ((((F ++ E3 ++ E4) ++ (E5 ++ E6)) ++ E9) ++ EA) ad MA [] dc ou L := hS9.kp hKA hIA (fun z hz => List.mem_append_left _ hz)
                              have h0A : mI MA 0 = nI 0 := (hKA.1 0 (by decide)).trans h09
                              obtain ⟨uu, huu⟩ : ∃ z, z = usA L kx x9 t q i (sk (notK 6) L (q + 1) - (q + 1)) := ⟨_, rfl⟩
                              rw [← huu] at huv
                              rw [← huu]
                              have huul : uu ≤ 6 := by rw [huu]; exact usA_le _ _ _ _ _ _ _
                              rw [huv] at hLT
                              refine lv_istore (lv' := [(11, .int (nI uu)), (10, .int (bZ (decide (0 < enN b ∧ md + enN b ≤ t)))), (8, .long (lN md)), (6, .int (nI i)), (5, .int (nI q)), (7, .int (nI q)), (0, .ref h0), (1, .long (lN t))]) hx hb dX7_look_283 hl (by decide) rfl (fun ls hl => ?_)
                              refine lv_iload hx hb dX7_look_285 (lv_at hl 0 rfl) ?_
                              refine n_if_ne (tgt := 294) hx hb (by omega) dX7_look_287 (by decide) (fun c287 => ?_) (fun c287 => ?_)
                              · refine lv_bipush (v := nI 10) hx hb dX7_look_294 (by decide) ?_
                                refine lv_iload hx hb dX7_look_296 (lv_at hl 0 rfl) ?_
                                refine lv_iadd hx hb dX7_look_298 (n_top (y := nI (10 + uu)) (nI_add 10 uu) ?_)
                                subst hQ
                                have hUU : lokS L tp dc v = (0, nI (10 + uu)) := by
                                  rw [hU1]
                                  show (0, lokT L b ct t i) = _
                                  rw [hLT]
                                  unfold lokU
                                  first | rw [if_pos c287] | rw [if_neg c287]
                                have h : Wd D B s (mw dA h0 ad MA ++ (F ++ (E3 ++ (E4 ++ (E5 ++ (E6 ++ (E9 ++ EA))))))) H locs := by (try simp only [List.append_assoc] at h ⊢); exact h
                                exact ret_i C hr hlocks h (MA, (E3 ++ (E4 ++ (E5 ++ (E6 ++ (E9 ++ EA)))))) (⟨by
                                    rw [hTP]
                                    (try simp only [List.append_assoc] at hSA ⊢); exact hSA, by rw [hUU]; exact h0A⟩) (by rw [hUU]) rfl (by omega) (by omega) dX7_look_299
                              · refine lv_iconst (v := nI 0) hx hb dX7_look_290 (by decide) ?_
                                refine lv_goto (tgt := 299) hx hb dX7_look_291 (by decide) ?_
                                subst hQ
                                have hUU : lokS L tp dc v = (0, nI 0) := by
                                  rw [hU1]
                                  show (0, lokT L b ct t i) = _
                                  rw [hLT]
                                  unfold lokU
                                  first | rw [if_pos c287] | rw [if_neg c287]
                                have h : Wd D B s (mw dA h0 ad MA ++ (F ++ (E3 ++ (E4 ++ (E5 ++ (E6 ++ (E9 ++ EA))))))) H locs := by (try simp only [List.append_assoc] at h ⊢); exact h
                                exact ret_i C hr hlocks h (MA, (E3 ++ (E4 ++ (E5 ++ (E6 ++ (E9 ++ EA)))))) (⟨by
                                    rw [hTP]
                                    (try simp only [List.append_assoc] at hSA ⊢); exact hSA, by rw [hUU]; exact h0A⟩) (by rw [hUU]) rfl (by omega) (by omega) dX7_look_299
                            · have hU2 : lokS L tp dc v = (0, nI 4) := by rw [hU1]; show (0, lokT L b ct t i) = _; rw [hLT, if_pos (Or.inr (of_decide_eq_true c269))]
                              refine lv_iconst (v := nI 4) hx hb dX7_look_272 (by decide) ?_
                              subst hQ
                              have hUU := hU2
                              have h : Wd D B s (mw dA h0 ad M9 ++ (F ++ (E3 ++ (E4 ++ (E5 ++ (E6 ++ E9)))))) H locs := by (try simp only [List.append_assoc] at h ⊢); exact h
                              exact ret_i C hr hlocks h (M9, (E3 ++ (E4 ++ (E5 ++ (E6 ++ E9))))) (⟨by
                                  rw [hTP]
                                  (try simp only [List.append_assoc] at hS9 ⊢); exact hS9, by rw [hUU]; exact h09⟩) (by rw [hUU]) rfl (by omega) (by omega) dX7_look_273
                        · have hU2 : lokS L tp dc v = (0, nI 3) := by rw [hU1]; show (0, lokT L b ct t i) = _; rw [hLT, if_pos c255]
                          refine lv_iconst (v := nI 3) hx hb dX7_look_258 (by decide) ?_
                          subst hQ
                          have hUU := hU2
                          have h : Wd D B s (mw dA h0 ad M9 ++ (F ++ (E3 ++ (E4 ++ (E5 ++ (E6 ++ E9)))))) H locs := by (try simp only [List.append_assoc] at h ⊢); exact h
                          exact ret_i C hr hlocks h (M9, (E3 ++ (E4 ++ (E5 ++ (E6 ++ E9))))) (⟨by
                              rw [hTP]
                              (try simp only [List.append_assoc] at hS9 ⊢); exact hS9, by rw [hUU]; exact h09⟩) (by rw [hUU]) rfl (by omega) (by omega) dX7_look_259
                      refine lv_aload_n hx hb dX7_look_224 rfl (lv_at hl 5 rfl) ?_
                      refine m_gi C h 56 (by decide) rfl rfl q1926 (v := nI (sType b)) hSI6.1 dX7_look_225 ?_
                      refine lv_iconst (v := nI 1) hx hb dX7_look_228 (by decide) ?_
                      refine n_icmp_ne (tgt := 236) hx hb (by omega) (by omega) dX7_look_229 (by decide) (fun c229 => ?_) (fun c229 => ?_)
                      · refine lv_iconst (v := nI 0) hx hb dX7_look_236 (by decide) ?_
                        refine n_top (y := bZ (decide (sType b = 1))) (by rw [decide_eq_false c229]; rfl) ?_
                        exact jt   _ _ h _ (lv_sub hl [0, 1, 2, 3, 4, 5, 6] rfl)
                      · refine lv_iconst (v := nI 1) hx hb dX7_look_232 (by decide) ?_
                        refine lv_goto (tgt := 237) hx hb dX7_look_233 (by decide) ?_
                        refine n_top (y := bZ (decide (sType b = 1))) (by rw [decide_eq_true c229]; rfl) ?_
                        exact jt   _ _ h _ (lv_sub hl [0, 1, 2, 3, 4, 5, 6] rfl)
                refine lv_aload_n hx hb dX7_look_137 rfl (lv_at hl 1 rfl) ?_
                refine m_gr C h 13 (by decide) rfl rfl q1883 (v := some (ad 13)) hR5.2.2.1 dX7_look_138 ?_
                refine lv_iload hx hb dX7_look_141 (lv_at hl 5 rfl) ?_
                refine n_iald C h (v := (mG M5 13) p9) (mw_memG (k := 13) (by decide)) (show p9 < 4700 by omega) (by decide) rfl dX7_look_143 ?_
                refine n_top (y := nI x9.1) (congrArg nI hx9k) ?_
                refine lv_bipush (v := nI 6) hx hb dX7_look_144 (by decide) ?_
                refine n_icmp_eq (tgt := 161) hx hb (by omega) (by omega) dX7_look_146 (by decide) (fun c146 => ?_) (fun c146 => ?_)
                · exact jk  (by first | exact Or.inl c146 | exact Or.inr c158) _ _ h _ (lv_sub hl [0, 1, 2, 3, 4, 5] rfl)
                · refine lv_aload_n hx hb dX7_look_149 rfl (lv_at hl 1 rfl) ?_
                  refine m_gr C h 13 (by decide) rfl rfl q1883 (v := some (ad 13)) hR5.2.2.1 dX7_look_150 ?_
                  refine lv_iload hx hb dX7_look_153 (lv_at hl 5 rfl) ?_
                  refine n_iald C h (v := (mG M5 13) p9) (mw_memG (k := 13) (by decide)) (show p9 < 4700 by omega) (by decide) rfl dX7_look_155 ?_
                  refine n_top (y := nI x9.1) (congrArg nI hx9k) ?_
                  refine lv_bipush (v := nI 14) hx hb dX7_look_156 (by decide) ?_
                  refine n_icmp_ne (tgt := 183) hx hb (by omega) (by omega) dX7_look_158 (by decide) (fun c158 => ?_) (fun c158 => ?_)
                  · have hPp : nmP L b p9 = false := by rw [hNP, decide_eq_false c146, decide_eq_false c158]; rfl
                    refine lv_iinc (v := nI (p9 + 1)) (lv' := [(8, .int (nI (p9 + 1))), (7, .int (oI (fdO L (p9 + 1)))), (0, .ref h0), (1, .long (lN t)), (5, .int (-1)), (6, .int (-1))]) hx hb dX7_look_183 hl (k := 5) rfl (nI_add p9 1) (by decide) rfl (fun ls hl => ?_)
                    refine lv_goto (tgt := 101) hx hb dX7_look_186 (by decide) ?_
                    exact ih (p9 + 1) _ _ M5 E5 (by omega) hI5 hK5 hSI5 (by rw [hi5, show L.length - p9 = L.length - (p9 + 1) + 1 by omega, fdP, if_neg (by rw [hPp]; decide)]) (by omega) (by omega) (by omega) _ _ h _ (lv_sub hl [2, 3, 4, 5, 1, 0] rfl)
                  · exact jk  (by first | exact Or.inl c146 | exact Or.inr c158) _ _ h _ (lv_sub hl [0, 1, 2, 3, 4, 5] rfl)
              refine lv_aload_n hx hb dX7_look_116 rfl (lv_at hl 0 rfl) ?_
              refine m_gr C h 13 (by decide) rfl rfl q1883 (v := some (ad 13)) hR5.2.2.1 dX7_look_117 ?_
              refine lv_iload hx hb dX7_look_120 (lv_at hl 5 rfl) ?_
              refine n_iald C h (v := (mG M5 13) p9) (mw_memG (k := 13) (by decide)) (show p9 < 4700 by omega) (by decide) rfl dX7_look_122 ?_
              refine n_top (y := nI x9.1) (congrArg nI hx9k) ?_
              refine lv_bipush (v := nI 6) hx hb dX7_look_123 (by decide) ?_
              refine n_icmp_ne (tgt := 133) hx hb (by omega) (by omega) dX7_look_125 (by decide) (fun c125 => ?_) (fun c125 => ?_)
              · refine lv_iload hx hb dX7_look_133 (lv_at hl 4 rfl) ?_
                refine n_top (y := oI (fdO L (p9 + 1))) (by rw [hFO, if_neg c125]) ?_
                exact jo   _ _ h _ (lv_sub hl [0, 1, 2, 3, 4, 5] rfl)
              · refine lv_iload hx hb dX7_look_128 (lv_at hl 5 rfl) ?_
                refine lv_goto (tgt := 135) hx hb dX7_look_130 (by decide) ?_
                refine n_top (y := oI (fdO L (p9 + 1))) (by rw [hFO, if_pos c125]; rfl) ?_
                exact jo   _ _ h _ (lv_sub hl [0, 1, 2, 3, 4, 5] rfl)
        exact loop _ 0 _ _ M4 [] (Nat.zero_le _) hI4 (Kp.rfl' M4) (by rw [List.append_nil]; exact hSI4) rfl (by omega) (by omega) (Nat.lt_succ_self _) _ _ h _ (lv_sub hl [4, 5, 3, 2, 1, 0] rfl)
      refine lv_aload_n hx hb dX7_look_66 rfl (lv_at hl 2 rfl) ?_
      refine m_gi C h 69 (by decide) rfl rfl q1939 (v := bZ (sVain b)) hSI4.2.2.2.2.2.2.2.2.2.2.2 dX7_look_67 ?_
      refine z_if_ne (tgt := 87) hx hb dX7_look_70 (by decide) (fun c70 => ?_) (fun c70 => ?_)
      · have hU1 : lokS L tp dc v = (0, nI 1) := by rw [hU0]; unfold lokR; rw [if_pos (Or.inl c70)]
        refine lv_iconst (v := nI 1) hx hb dX7_look_87 (by decide) ?_
        subst hQ
        have hUU := hU1
        have h : Wd D B s (mw dA h0 ad M4 ++ (F ++ (E3 ++ E4))) H locs := by (try simp only [List.append_assoc] at h ⊢); exact h
        exact ret_i C hr hlocks h (M4, (E3 ++ E4)) (⟨by
            rw [hTP]
            (try simp only [List.append_assoc] at hS4 ⊢); exact hS4, by rw [hUU]; exact h04⟩) (by rw [hUU]) rfl (by omega) (by omega) dX7_look_88
      · refine lv_aload_n hx hb dX7_look_73 rfl (lv_at hl 2 rfl) ?_
        refine m_gr C h 65 (by decide) rfl rfl q1935 (v := mR M4 65) rfl dX7_look_74 ?_
        refine q_ifnonnull (tgt := 89) hx hb dX7_look_77 (by decide) (fun a77 c77 => ?_) (fun c77 => ?_)
        · have hps : ¬ (sNote b).2.2.2.2.1 = none := by
            intro z
            rw [z] at hrp
            rw [show mR M4 65 = none from hrp] at c77; cases c77
          have hnb9 : ¬ ((sNote b).2.2.2.2.1 = none ∧ (sNote b).2.2.2.1 = none) := fun z => hps z.1
          exact jm  c70 hnb9 _ _ h _ (lv_sub hl [2, 3] rfl)
        · have hpn : (sNote b).2.2.2.2.1 = none := by
            cases z : (sNote b).2.2.2.2.1 with
            | none => rfl
            | some p9 => rw [z] at hrp; obtain ⟨a8, h8, -⟩ := hrp; rw [h8] at c77; cases c77
          refine lv_aload_n hx hb dX7_look_80 rfl (lv_at hl 2 rfl) ?_
          refine m_gr C h 64 (by decide) rfl rfl q1934 (v := mR M4 64) rfl dX7_look_81 ?_
          refine q_ifnonnull (tgt := 89) hx hb dX7_look_84 (by decide) (fun a84 c84 => ?_) (fun c84 => ?_)
          · have hns : ¬ (sNote b).2.2.2.1 = none := by
              intro z
              rw [z] at hrn
              rw [show mR M4 64 = none from hrn] at c84; cases c84
            have hnb9 : ¬ ((sNote b).2.2.2.2.1 = none ∧ (sNote b).2.2.2.1 = none) := fun z => hns z.2
            exact jm  c70 hnb9 _ _ h _ (lv_sub hl [2, 3] rfl)
          · have hnn : (sNote b).2.2.2.1 = none := by
              cases z : (sNote b).2.2.2.1 with
              | none => rfl
              | some p9 => rw [z] at hrn; obtain ⟨a8, h8, -⟩ := hrn; rw [h8] at c84; cases c84
            have hU1 : lokS L tp dc v = (0, nI 1) := by rw [hU0]; unfold lokR; rw [if_pos (Or.inr ⟨hpn, hnn⟩)]
            refine lv_iconst (v := nI 1) hx hb dX7_look_87 (by decide) ?_
            subst hQ
            have hUU := hU1
            have h : Wd D B s (mw dA h0 ad M4 ++ (F ++ (E3 ++ E4))) H locs := by (try simp only [List.append_assoc] at h ⊢); exact h
            exact ret_i C hr hlocks h (M4, (E3 ++ E4)) (⟨by
                rw [hTP]
                (try simp only [List.append_assoc] at hS4 ⊢); exact hS4, by rw [hUU]; exact h04⟩) (by rw [hUU]) rfl (by omega) (by omega) dX7_look_88
    · have hU : lokS L tp dc v = (0, cs.1) := by rw [hU0, if_neg c48]
      refine lv_aload_n hx hb dX7_look_51 rfl (lv_at hl 1 rfl) ?_
      refine m_gi C h 33 (by decide) rfl rfl q1903 (v := cs.1) h333 dX7_look_52 ?_
      subst hQ
      have hUU := hU
      have h : Wd D B s (mw dA h0 ad M3 ++ (F ++ E3)) H locs := by (try simp only [List.append_assoc] at h ⊢); exact h
      exact ret_i C hr hlocks h (M3, E3) (⟨by
          rw [hTP]
          (try simp only [List.append_assoc] at hS3 ⊢); exact hS3, by rw [hUU]; exact h03⟩) (by rw [hUU]) rfl (by omega) (by omega) dX7_look_55
