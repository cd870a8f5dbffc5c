set_option maxRecDepth 100000

abbrev CUt : Type := Option (Nat × Nat × Nat)
abbrev RowS : Type := Nat × Nat × (Nat → Nat) × List Nat
abbrev LXt : Type := Option (Nat × Nat × (Nat → Option Nat))
def CurA (R : List KY) (cu : CUt) (ko lo : Option Nat) : Prop := match cu with
  | none => ko = none ∧ lo = none
  | some c => ∃ k, R[c.1]? = some k ∧ ko = some k.1 ∧ ((c.2.1 = 0 ∧ lo = some k.1) ∨ (c.2.1 = 1 ∧ ∃ u, k.2.2.2.1.2[c.2.2]? = some u ∧ lo = some u.1) ∨ (c.2.1 = 2 ∧ ∃ y, k.2.2.2.2.2[c.2.2]? = some y ∧ lo = some y.1))
def RdOk (hs : HS) (gd : Nat → Nat) (r : RowS) : Prop := (∀ j, gd j < 256) ∧ (∀ j, j < 64 → hs.2.2.2.2 j < 256) ∧ SBis r.2.2.1 r.2.1 r.2.2.2 ∧ 64 ≤ r.2.1 ∧ r.2.1 < 400000
def tellN (kr : Int32 × RNt) (n : Nat) : Int32 := if kr.1 = 0 then -1 - nI n else kr.1
theorem keysN_end {rw : List Nat} {f nx : Nat} {x : RNt} (h : rw.length ≤ nx) : keysN rw f x nx = (0, x) := by
  cases f with
  | zero => rfl
  | succ f => unfold keysN; rw [if_pos h]
theorem keysN_none {rw : List Nat} {f nx : Nat} {x : RNt} (hn : nx < rw.length) (hf : 0 < f) (h : pktS rw nx = none) : keysN rw f x nx = (-1 - nI nx, x) := by
  cases f with
  | zero => omega
  | succ f => unfold keysN; rw [if_neg (by omega), h]; rfl
theorem keysN_bad {rw : List Nat} {f nx k2 n2 : Nat} {bd : List Nat} {x : RNt} (hn : nx < rw.length) (hf : 0 < f) (h : pktS rw nx = some (k2, bd, n2)) (hp : pkN x k2 bd = none) : keysN rw f x nx = (-1 - nI nx, x) := by
  cases f with
  | zero => omega
  | succ f => unfold keysN; rw [if_neg (by omega), h]; show nextN nx x (pkN x k2 bd) _ = _; rw [hp]; rfl
theorem keysN_go {rw : List Nat} {f nx k2 n2 : Nat} {bd : List Nat} {x y : RNt} (hn : nx < rw.length) (hf : 0 < f) (h : pktS rw nx = some (k2, bd, n2)) (hp : pkN x k2 bd = some y) : keysN rw f x nx = keysN rw (f - 1) y n2 := by
  cases f with
  | zero => omega
  | succ f => show keysN rw (f + 1) x nx = keysN rw f y n2; rw [keysN, if_neg (by omega), h]; show nextN nx x (pkN x k2 bd) _ = _; rw [hp]; rfl
theorem mem_new {F E W : va_W} {q : Nat} {e : va_E} (hp : W.Perm (F ++ E)) (h : (q, e) ∈ W) (hf : ∀ y, (q, y) ∈ F → False) : (q, e) ∈ E := by
  rcases List.mem_append.mp (hp.mem_iff.mp h) with z | z
  · exact (hf _ z).elim
  · exact z
theorem memOE {O F E : va_W} {z : Nat × va_E} (h : z ∈ O ++ F) : z ∈ O ++ (F ++ E) := by rw [← List.append_assoc]; exact List.mem_append_left _ h
theorem map_any {l : List SL} {b : List Nat} : (l.map Prod.snd).any (fun y => decide (y = b)) = l.any (fun y => decide (y.2 = b)) := by rw [List.any_map]; rfl

set_option maxHeartbeats 4000000 in
set_option maxRecDepth 100000 in
theorem c1_readKeys (l : Launch) (D : va_G) (dA : Nat → ClassId) (B : Nat) (Z : State → Prop) (hZ : Stab B Z) (O F : va_W) (ho st fi bl wo : Nat) (me bs dc ou rg h2 dg tk pl pk tx sd : Nat) (sz : Nat) (po e0 mi ro rb n0 : Nat) (gq : Nat → Nat) (lw : List Nat) (b0 cap0 : Nat) (g0 : Nat → Nat) (lr0 : List Nat) (u9 : HS) (gd0 : Nat → Nat) (ra : Nat) (lm0 : Int32) (lx0 : LXt) (R0 : List KY) (cx0 : CX) (hlt : l.stackTraces = false) (hzx : ZX B Z) (hzs : ZS dA B Z) (hza : ZA B e0 mi Z) (hfi : (fi, war dA 5 (t5 in1)) ∈ O ++ F) (hmC : (me, .inr (0, [.ref bs, .int (nI sz), .ref dc, .ref ou, .ref rg, .ref ho, .ref h2, .ref dg, .ref po, .ref tk, .ref pl, .ref pk, .ref tx, .ref sd])) ∈ O ++ F) (hro : (ro, .inr (1, [.ref rb, .int (nI lw.length)])) ∈ O ++ F) (hrb : (rb, bar dA n0 gq) ∈ O ++ F) (hsb : SBis gq n0 lw) (hbt : byt lw) (hn0 : n0 < 400000) (hl4 : lw.length ≤ 4096) (hrd0 : RdOk u9 gd0 (b0, cap0, g0, lr0)) (hRg0 : RgS dA cx0 F (ra, lm0, lx0) R0) :
    CtX (S := HS × (Nat → Nat) × RowS × (Int32 × LXt) × List KY × CX × Nat × va_W) (SX := Nat × HS × (Nat → Nat) × RowS × va_W) l D dA B Z yX1_readKeys cX1_readKeys 11 (some .int) 11 (2 * lw.length + lw.length / 16 + 40) (20 * lw.length + 300) [.ref me, .ref ra, .ref ro] (h4C dA ho st fi bl wo u9 ++ ([(dg, bar dA 32 gd0), (pk, .inr (1, [.ref b0, .int (nI lr0.length)])), (b0, bar dA cap0 g0)] ++ (ringW dA e0 (ra, lm0, lx0) R0 ++ (O ++ F)))) (fun u => RdOk u.1 u.2.1 u.2.2.1 ∧ RgS dA u.2.2.2.2.2.1 (F ++ u.2.2.2.2.2.2.2) (ra, u.2.2.2.1.1, u.2.2.2.1.2) u.2.2.2.2.1 ∧ (∀ a y, (a, y) ∈ F → u.2.2.2.2.2.1 a = cx0 a) ∧ (keysN lw (lw.length + 1) (R0.map kcK, none, 0) 0).1 = 0 ∧ (keysN lw (lw.length + 1) (R0.map kcK, none, 0) 0).2.1 = u.2.2.2.2.1.map kcK ∧ (keysN lw (lw.length + 1) (R0.map kcK, none, 0) 0).2.2.2 = u.2.2.2.2.2.2.1 ∧ u.2.2.2.2.2.2.1 ≠ 0) (fun u => some (.int (nI u.2.2.2.2.2.2.1))) (fun u => h4C dA ho st fi bl wo u.1 ++ ([(dg, bar dA 32 u.2.1), (pk, .inr (1, [.ref u.2.2.1.1, .int (nI u.2.2.1.2.2.2.length)])), (u.2.2.1.1, bar dA u.2.2.1.2.1 u.2.2.1.2.2.1)] ++ (ringW dA e0 (ra, u.2.2.2.1.1, u.2.2.2.1.2) u.2.2.2.2.1 ++ (O ++ (F ++ u.2.2.2.2.2.2.2))))) (fun u => RdOk u.2.1 u.2.2.1 u.2.2.2.1 ∧ FaultIn u.2.2.2.2 u.1 (tellN (keysN lw (lw.length + 1) (R0.map kcK, none, 0) 0) lw.length) ∧ (∀ x ∈ O ++ F, x ∈ u.2.2.2.2) ∧ ((keysN lw (lw.length + 1) (R0.map kcK, none, 0) 0).1 = 0 → (keysN lw (lw.length + 1) (R0.map kcK, none, 0) 0).2.2.2 = 0)) (fun u => u.1) (fun _ => "SignetRing$Fault") (fun u => h4C dA ho st fi bl wo u.2.1 ++ ([(dg, bar dA 32 u.2.2.1), (pk, .inr (1, [.ref u.2.2.2.1.1, .int (nI u.2.2.2.1.2.2.2.length)])), (u.2.2.2.1.1, bar dA u.2.2.2.1.2.1 u.2.2.2.1.2.2.1)] ++ u.2.2.2.2)) := by
  refine CtX.mk2 (by decide) (Nat.le_of_ble_eq_true rfl) hZ ?_
  intro p e R s m args below meth c ls Q C hr hlocks hin hex hQ hl h
  have C0 := C
  obtain ⟨hx, hb, hml, hown, hts, -⟩ := C0
  have hl : lv_has ls 11 [(0, .ref me), (1, .ref ra), (2, .ref ro)] := hl
  obtain ⟨kr, hkr⟩ : ∃ z, z = (keysN lw (lw.length + 1) (R0.map kcK, none, 0) 0) := ⟨_, rfl⟩
  rw [← hkr] at hQ
  have h : Wd D B s ([(ho, .inr (2, [.ref st, .ref fi, .ref bl, .long u9.1, .ref wo])), (st, war dA 5 u9.2.1), (wo, war dA 80 u9.2.2.1), (bl, bar dA 64 u9.2.2.2.2), (dg, bar dA 32 gd0), (pk, .inr (1, [.ref b0, .int (nI lr0.length)])), (b0, bar dA cap0 g0)] ++ (ringW dA e0 (ra, lm0, lx0) R0 ++ (O ++ F))) s.heap [] := h
  obtain ⟨hrd1, hrd2, hrd3, hrd4, hrd5⟩ := hrd0
  dsimp only at hrd3 hrd4 hrd5
  refine o_new C h (RC := RX14) (T := TX14) (N := 7) (ci := 11) (fs := [.null, .int 0, .int 0, .int 0, .int 0, .null, .null]) rfl in_X14 tyX14_ok q1020 q1021 q162 dv_X14 (by omega) (by omega) dX1_readKeys_0 (fun o1 H h => ?_)
  have h := Wd.toFront h
  have h : Wd D B s ([(o1, .inr (11, [.null, .int 0, .int 0, .int 0, .int 0, .null, .null])), (ho, .inr (2, [.ref st, .ref fi, .ref bl, .long u9.1, .ref wo])), (st, war dA 5 u9.2.1), (wo, war dA 80 u9.2.2.1), (bl, bar dA 64 u9.2.2.2.2), (dg, bar dA 32 gd0), (pk, .inr (1, [.ref b0, .int (nI lr0.length)])), (b0, bar dA cap0 g0)] ++ (ringW dA e0 (ra, lm0, lx0) R0 ++ (O ++ F))) H [] := h
  refine lv_dup hx hb dX1_readKeys_3 rfl ?_
  refine lv_aload_n hx hb dX1_readKeys_4 rfl (lv_at hl 2 rfl) ?_
  refine lv_aload_n hx hb dX1_readKeys_5 rfl (lv_at hl 0 rfl) ?_
  refine o_get C h (RC := RX1) (T := TX1) (N := 14) (List.mem_append_right _ (List.mem_append_right _ hmC)) rfl in_X1 11 (by decide) q319 rfl (v := .ref pk) rfl dX1_readKeys_6 ?_
  refine call_I (As := [.ref ro, .ref pk]) (rest := [.ref o1]) (n := 2) C h (c14_init l D dA B Z hZ ([(ho, .inr (2, [.ref st, .ref fi, .ref bl, .long u9.1, .ref wo])), (st, war dA 5 u9.2.1), (wo, war dA 80 u9.2.2.1), (bl, bar dA 64 u9.2.2.2.2), (dg, bar dA 32 gd0), (pk, .inr (1, [.ref b0, .int (nI lr0.length)])), (b0, bar dA cap0 g0)] ++ (ringW dA e0 (ra, lm0, lx0) R0 ++ (O ++ F))) o1 ro rb lw.length pk (List.mem_append_right _ (List.mem_append_right _ hro))) (lw_meth q1024) q162 q1022 q1023 rfl (by decide +kernel) (by decide) (by decide) rfl hl rfl (Nat.le_of_ble_eq_true rfl) dX1_readKeys_9 (by omega) (fun _ H locs _ h => ?_)
  have h : Wd D B s ([(o1, .inr (11, [.ref rb, .int (nI lw.length), .int 0, .int 0, .int 0, .null, .ref pk])), (ho, .inr (2, [.ref st, .ref fi, .ref bl, .long u9.1, .ref wo])), (st, war dA 5 u9.2.1), (wo, war dA 80 u9.2.2.1), (bl, bar dA 64 u9.2.2.2.2), (dg, bar dA 32 gd0), (pk, .inr (1, [.ref b0, .int (nI lr0.length)])), (b0, bar dA cap0 g0)] ++ (ringW dA e0 (ra, lm0, lx0) R0 ++ (O ++ F))) H locs := h
  have h : Wd D B s ([(o1, .inr (11, [.ref rb, .int (nI lw.length), .int (nI 0), .int (nI 0), .int (nI 0), va_rf none, .ref pk])), (ho, .inr (2, [.ref st, .ref fi, .ref bl, .long u9.1, .ref wo])), (st, war dA 5 u9.2.1), (wo, war dA 80 u9.2.2.1), (bl, bar dA 64 u9.2.2.2.2), (dg, bar dA 32 gd0), (pk, .inr (1, [.ref b0, .int (nI lr0.length)])), (b0, bar dA cap0 g0)] ++ (ringW dA e0 (ra, lm0, lx0) R0 ++ (O ++ F))) H locs := h
  refine lv_astore_n (lv' := [(3, .ref o1), (0, .ref me), (1, .ref ra), (2, .ref ro)]) hx hb dX1_readKeys_12 rfl hl (by decide) rfl (fun ls hl => ?_)
  refine lv_null hx hb dX1_readKeys_13 ?_
  refine lv_astoreN (lv' := [(4, .null), (3, .ref o1), (0, .ref me), (1, .ref ra), (2, .ref ro)]) hx hb dX1_readKeys_14 hl (by decide) rfl (fun ls hl => ?_)
  refine lv_null hx hb dX1_readKeys_16 ?_
  refine lv_astoreN (lv' := [(5, .null), (4, .null), (3, .ref o1), (0, .ref me), (1, .ref ra), (2, .ref ro)]) hx hb dX1_readKeys_17 hl (by decide) rfl (fun ls hl => ?_)
  refine lv_iconst (v := nI 0) hx hb dX1_readKeys_19 (by decide) ?_
  refine lv_istore (lv' := [(6, .int (nI 0)), (5, .null), (4, .null), (3, .ref o1), (0, .ref me), (1, .ref ra), (2, .ref ro)]) hx hb dX1_readKeys_20 hl (by decide) rfl (fun ls hl => ?_)
  have h : Wd D B s ([(o1, .inr (11, [.ref rb, .int (nI lw.length), .int (nI 0), .int (nI 0), .int (nI 0), va_rf none, .ref pk])), (ho, .inr (2, [.ref st, .ref fi, .ref bl, .long u9.1, .ref wo])), (st, war dA 5 u9.2.1), (wo, war dA 80 u9.2.2.1), (bl, bar dA 64 u9.2.2.2.2), (dg, bar dA 32 gd0), (pk, .inr (1, [.ref b0, .int (nI lr0.length)])), (b0, bar dA cap0 g0)] ++ (ringW dA e0 (ra, lm0, lx0) R0 ++ (O ++ (F ++ [])))) H locs := by rw [List.append_nil]; exact h
  have hl : lv_has ls 11 [(6, .int (nI 0)), (5, va_rf none), (4, va_rf none), (3, .ref o1), (0, .ref me), (1, .ref ra), (2, .ref ro)] := hl
  have loop : ∀ (nn : Nat) (nx plc kd : Nat) (bo : Option Nat) (b cap : Nat) (g : Nat → Nat) (lr : List Nat) (u : HS) (gd : Nat → Nat) (lm : Int32) (lx : LXt) (Rg : List KY) (cx : CX) (cu : CUt) (ko lo : Option Nat) (many fu : Nat) (E : va_W) (cc cs : Nat), (nx ≤ lw.length) → (SBis g cap lr) → (64 ≤ cap) → (cap < 400000) → (∀ j, j < 64 → u.2.2.2.2 j < 256) → (∀ j, gd j < 256) → (RgS dA cx (F ++ E) (ra, lm, lx) Rg) → (∀ a y, (a, y) ∈ F → cx a = cx0 a) → (CurA Rg cu ko lo) → (kr = keysN lw fu (Rg.map kcK, cu, many) nx) → (lw.length - nx < fu) → (many ≤ nx) → (cc ≤ 2 * nx + 3) → (cs ≤ 15 * nx + 20) → lw.length - nx < nn → ∀ (H : Heap) (locs : List Loc), Wd D B s ([(o1, .inr (11, [.ref rb, .int (nI lw.length), .int (nI nx), .int (nI plc), .int (nI kd), va_rf bo, .ref pk])), (ho, .inr (2, [.ref st, .ref fi, .ref bl, .long u.1, .ref wo])), (st, war dA 5 u.2.1), (wo, war dA 80 u.2.2.1), (bl, bar dA 64 u.2.2.2.2), (dg, bar dA 32 gd), (pk, .inr (1, [.ref b, .int (nI lr.length)])), (b, bar dA cap g)] ++ (ringW dA e0 (ra, lm, lx) Rg ++ (O ++ (F ++ E)))) H locs → ∀ (ls : Array Slot), lv_has ls 11 [(0, .ref me), (1, .ref ra), (2, .ref ro), (3, .ref o1), (4, va_rf ko), (5, va_rf lo), (6, .int (nI many))] → W p l e R s m args below meth c H locs cc cs Q (F0 m 22 ls []) := by
    intro nn
    induction nn with
    | zero => intro nx plc kd  bo  b cap  g  lr  u  gd  lm  lx  Rg  cx  cu  ko lo  many fu  E  cc cs  hnx hsr hcap hcm hgb hgd hRg hcx hcur hkn hfu hmany hcc hcs hme; exact absurd hme (Nat.not_lt_zero _)
    | succ nn ih =>
      intro nx plc kd  bo  b cap  g  lr  u  gd  lm  lx  Rg  cx  cu  ko lo  many fu  E  cc cs  hnx hsr hcap hcm hgb hgd hRg hcx hcur hkn hfu hmany hcc hcs hme H locs h ls hl
      have hfu0 : 0 < fu := by omega
      refine lv_aload_n hx hb dX1_readKeys_22 rfl (lv_at hl 3 rfl) ?_
      refine call_VR (As := []) (rest := []) (n := 0) C h (c14_more l D dA B Z hZ ([(ho, .inr (2, [.ref st, .ref fi, .ref bl, .long u.1, .ref wo])), (st, war dA 5 u.2.1), (wo, war dA 80 u.2.2.1), (bl, bar dA 64 u.2.2.2.2), (dg, bar dA 32 gd), (pk, .inr (1, [.ref b, .int (nI lr.length)])), (b, bar dA cap g)] ++ (ringW dA e0 (ra, lm, lx) Rg ++ (O ++ (F ++ E)))) o1 rb pk lw.length nx plc kd bo (by omega) (by omega)) (lw_V q1051 q1052 q1053 q162 q1054) (by decide +kernel) (o_recv C h (RC := RX14) (T := TX14) (N := 7) (List.mem_of_getElem? (i := 0) rfl) rfl) (by decide) (by decide) rfl hl rfl (Nat.le_of_ble_eq_true rfl) dX1_readKeys_23 (by omega) (fun _ H locs _ h => ?_)
      have h : Wd D B s ([(o1, .inr (11, [.ref rb, .int (nI lw.length), .int (nI nx), .int (nI plc), .int (nI kd), va_rf bo, .ref pk])), (ho, .inr (2, [.ref st, .ref fi, .ref bl, .long u.1, .ref wo])), (st, war dA 5 u.2.1), (wo, war dA 80 u.2.2.1), (bl, bar dA 64 u.2.2.2.2), (dg, bar dA 32 gd), (pk, .inr (1, [.ref b, .int (nI lr.length)])), (b, bar dA cap g)] ++ (ringW dA e0 (ra, lm, lx) Rg ++ (O ++ (F ++ E)))) H locs := h
      have h : Wd D B s ([(o1, .inr (11, [.ref rb, .int (nI lw.length), .int (nI nx), .int (nI plc), .int (nI kd), va_rf bo, .ref pk])), (ho, .inr (2, [.ref st, .ref fi, .ref bl, .long u.1, .ref wo])), (st, war dA 5 u.2.1), (wo, war dA 80 u.2.2.1), (bl, bar dA 64 u.2.2.2.2), (dg, bar dA 32 gd), (pk, .inr (1, [.ref b, .int (nI lr.length)])), (b, bar dA cap g)] ++ (ringW dA e0 (ra, lm, lx) Rg ++ (O ++ (F ++ E)))) H locs := h.permL (perm_add (fun g f p0 p1 p2 => by (try simp only [p0, p1, p2]) <;> omega))
      refine z_if_eq (tgt := 313) hx hb dX1_readKeys_26 (by decide) (fun c26 => ?_) (fun c26 => ?_)
      · have hne : lw.length ≤ nx := Nat.le_of_not_lt (of_decide_eq_false c26)
        rw [keysN_end hne] at hkn
        refine lv_iload hx hb dX1_readKeys_313 (lv_at hl 6 rfl) ?_
        refine n_if_ne (tgt := 332) hx hb (by omega) dX1_readKeys_315 (by decide) (fun c315 => ?_) (fun c315 => ?_)
        · refine lv_iload hx hb dX1_readKeys_332 (lv_at hl 6 rfl) ?_
          subst hQ
          have h : Wd D B s ([(ho, .inr (2, [.ref st, .ref fi, .ref bl, .long u.1, .ref wo])), (st, war dA 5 u.2.1), (wo, war dA 80 u.2.2.1), (bl, bar dA 64 u.2.2.2.2)] ++ ([(dg, bar dA 32 gd), (pk, .inr (1, [.ref b, .int (nI lr.length)])), (b, bar dA cap g)] ++ (ringW dA e0 (ra, lm, lx) Rg ++ (O ++ (F ++ ([(o1, .inr (11, [.ref rb, .int (nI lw.length), .int (nI nx), .int (nI plc), .int (nI kd), va_rf bo, .ref pk]))] ++ E)))))) H locs := h.permL (perm_add (fun g f p0 p1 p2 => by (try simp only [p0, p1, p2]) <;> omega))
          have h : Wd D B s (h4C dA ho st fi bl wo u ++ ([(dg, bar dA 32 gd), (pk, .inr (1, [.ref b, .int (nI lr.length)])), (b, bar dA cap g)] ++ (ringW dA e0 (ra, lm, lx) Rg ++ (O ++ (F ++ ([(o1, .inr (11, [.ref rb, .int (nI lw.length), .int (nI nx), .int (nI plc), .int (nI kd), va_rf bo, .ref pk]))] ++ E)))))) H locs := h
          refine vy_ret ?_
          exact ret_i C hr hlocks h (u, gd, (b, cap, g, lr), (lm, lx), Rg, cx, many, [(o1, .inr (11, [.ref rb, .int (nI lw.length), .int (nI nx), .int (nI plc), .int (nI kd), va_rf bo, .ref pk]))] ++ E) (⟨⟨hgd, hgb, hsr, hcap, hcm⟩, hRg.sub (fun z hz => by rcases List.mem_append.mp hz with y | y; exact List.mem_append_left _ y; exact List.mem_append_right _ (List.mem_append_right _ y)), hcx, by rw [hkn], by rw [hkn], by rw [hkn], c315⟩) rfl rfl (by omega) (by omega) dX1_readKeys_334
        · refine o_newB C h (RC := RX13) (T := TX13) (N := 7) (ci := 10) (fs := ftc0) rfl in_X13 tyX13_ok q359 q617 q153 dv_X13 (by omega) (by omega) dX1_readKeys_318 (fun o2 H hfr h => ?_)
          have h := Wd.toFront h
          have h : Wd D B s ([(o2, .inr (10, ftc0)), (o1, .inr (11, [.ref rb, .int (nI lw.length), .int (nI nx), .int (nI plc), .int (nI kd), va_rf bo, .ref pk])), (ho, .inr (2, [.ref st, .ref fi, .ref bl, .long u.1, .ref wo])), (st, war dA 5 u.2.1), (wo, war dA 80 u.2.2.1), (bl, bar dA 64 u.2.2.2.2), (dg, bar dA 32 gd), (pk, .inr (1, [.ref b, .int (nI lr.length)])), (b, bar dA cap g)] ++ (ringW dA e0 (ra, lm, lx) Rg ++ (O ++ (F ++ E)))) H locs := h
          refine lv_dup hx hb dX1_readKeys_321 rfl ?_
          refine lv_iconst (v := -1) hx hb dX1_readKeys_322 (by decide) ?_
          refine lv_aload_n hx hb dX1_readKeys_323 rfl (lv_at hl 2 rfl) ?_
          refine o_get C h (RC := RX2) (T := TX2) (N := 2) (List.mem_append_right _ (List.mem_append_right _ (memOE hro))) rfl in_X2 1 (by decide) q192 rfl (v := .int (nI lw.length)) rfl dX1_readKeys_324 ?_
          refine lv_isub hx hb dX1_readKeys_327 ?_
          refine call_IF (t := (-1) - (nI lw.length)) (rest := [.ref o2]) C hlt hzx h hfr q1417 (by decide) hl (Nat.le_of_ble_eq_true rfl) dX1_readKeys_328 (by omega) (fun x3 H locs h => ?_)
          have h : Wd D B s ([(o2, .inr (10, fts x3 ((-1) - (nI lw.length)))), (o1, .inr (11, [.ref rb, .int (nI lw.length), .int (nI nx), .int (nI plc), .int (nI kd), va_rf bo, .ref pk])), (ho, .inr (2, [.ref st, .ref fi, .ref bl, .long u.1, .ref wo])), (st, war dA 5 u.2.1), (wo, war dA 80 u.2.2.1), (bl, bar dA 64 u.2.2.2.2), (dg, bar dA 32 gd), (pk, .inr (1, [.ref b, .int (nI lr.length)])), (b, bar dA cap g)] ++ (ringW dA e0 (ra, lm, lx) Rg ++ (O ++ (F ++ E)))) H locs := h
          subst hQ
          have h : Wd D B s ([(ho, .inr (2, [.ref st, .ref fi, .ref bl, .long u.1, .ref wo])), (st, war dA 5 u.2.1), (wo, war dA 80 u.2.2.1), (bl, bar dA 64 u.2.2.2.2)] ++ ([(dg, bar dA 32 gd), (pk, .inr (1, [.ref b, .int (nI lr.length)])), (b, bar dA cap g)] ++ ([(o2, .inr (10, fts x3 ((-1) - (nI lw.length))))] ++ ([(o1, .inr (11, [.ref rb, .int (nI lw.length), .int (nI nx), .int (nI plc), .int (nI kd), va_rf bo, .ref pk]))] ++ (ringW dA e0 (ra, lm, lx) Rg ++ (O ++ (F ++ E))))))) H locs := h.permL (perm_add (fun g f p0 p1 p2 => by (try simp only [p0, p1, p2]) <;> omega))
          have h : Wd D B s (h4C dA ho st fi bl wo u ++ ([(dg, bar dA 32 gd), (pk, .inr (1, [.ref b, .int (nI lr.length)])), (b, bar dA cap g)] ++ ([(o2, .inr (10, fts x3 ((-1) - (nI lw.length))))] ++ ([(o1, .inr (11, [.ref rb, .int (nI lw.length), .int (nI nx), .int (nI plc), .int (nI kd), va_rf bo, .ref pk]))] ++ (ringW dA e0 (ra, lm, lx) Rg ++ (O ++ (F ++ E))))))) H locs := h
          have hft : FaultIn ([(o2, .inr (10, fts x3 ((-1) - (nI lw.length))))] ++ ([(o1, .inr (11, [.ref rb, .int (nI lw.length), .int (nI nx), .int (nI plc), .int (nI kd), va_rf bo, .ref pk]))] ++ (ringW dA e0 (ra, lm, lx) Rg ++ (O ++ (F ++ E))))) o2 (tellN kr lw.length) := by
            unfold tellN
            rw [hkn, if_pos rfl]
            exact ⟨x3, List.mem_append_left _ List.mem_cons_self⟩
          exact x_athrow C hex hlocks h (List.mem_append_right _ (List.mem_append_right _ (List.mem_append_left _ List.mem_cons_self))) rfl (o2, u, gd, (b, cap, g, lr), [(o2, .inr (10, fts x3 ((-1) - (nI lw.length))))] ++ ([(o1, .inr (11, [.ref rb, .int (nI lw.length), .int (nI nx), .int (nI plc), .int (nI kd), va_rf bo, .ref pk]))] ++ (ringW dA e0 (ra, lm, lx) Rg ++ (O ++ (F ++ E))))) rfl rfl (⟨⟨hgd, hgb, hsr, hcap, hcm⟩, hft, fun x9 hx9 => List.mem_append_right _ (List.mem_append_right _ (List.mem_append_right _ (memOE hx9))), fun _ => by rw [hkn]; exact c315⟩) rfl (by omega) (by omega) dX1_readKeys_331
      · have hnl : nx < lw.length := of_decide_eq_true c26
        refine lv_aload_n hx hb dX1_readKeys_29 rfl (lv_at hl 3 rfl) ?_
        rcases hpk9 : pktS lw nx with _ | ⟨k2, bd, n2⟩
        · have h : Wd D B s ([(o1, .inr (11, [.ref rb, .int (nI lw.length), .int (nI nx), .int (nI plc), .int (nI kd), va_rf bo, .ref pk])), (pk, .inr (1, [.ref b, .int (nI lr.length)])), (b, bar dA cap g), (ho, .inr (2, [.ref st, .ref fi, .ref bl, .long u.1, .ref wo])), (st, war dA 5 u.2.1), (wo, war dA 80 u.2.2.1), (bl, bar dA 64 u.2.2.2.2), (dg, bar dA 32 gd)] ++ (ringW dA e0 (ra, lm, lx) Rg ++ (O ++ (F ++ E)))) H locs := h.perm [0, 6, 7, 1, 2, 3, 4, 5] rfl rfl
          have hold : Wd D B s ([(o1, .inr (11, [.ref rb, .int (nI lw.length), .int (nI nx), .int (nI plc), .int (nI kd), va_rf bo, .ref pk])), (pk, .inr (1, [.ref b, .int (nI lr.length)])), (b, bar dA cap g)] ++ ([(ho, .inr (2, [.ref st, .ref fi, .ref bl, .long u.1, .ref wo])), (st, war dA 5 u.2.1), (wo, war dA 80 u.2.2.1), (bl, bar dA 64 u.2.2.2.2), (dg, bar dA 32 gd)] ++ (ringW dA e0 (ra, lm, lx) Rg ++ (O ++ (F ++ E))))) H locs := h
          have hrc : rC cap lw.length = (gro cap lw.length - cap) / 64 := rfl
          have hrs : rS cap lw.length = 2 * (gro cap lw.length - cap) := rfl
          have hgrX := gro_b (cap := cap) (m := lw.length) (by omega)
          refine call_VX (As := []) (rest := []) (n := 0) C h (c14_nextX l D dA B Z hZ ([(ho, .inr (2, [.ref st, .ref fi, .ref bl, .long u.1, .ref wo])), (st, war dA 5 u.2.1), (wo, war dA 80 u.2.2.1), (bl, bar dA 64 u.2.2.2.2), (dg, bar dA 32 gd)] ++ (ringW dA e0 (ra, lm, lx) Rg ++ (O ++ (F ++ E)))) o1 rb n0 pk gq lw nx plc kd bo b cap g lr hlt hzx (List.mem_append_right _ (List.mem_append_right _ (memOE hrb))) hsb hbt hn0 hl4 (by omega) hsr hcap hcm hpk9) (lw_V q1055 q1056 q1057 q162 q1058) (by decide +kernel) (o_recv C h (RC := RX14) (T := TX14) (N := 7) (List.mem_of_getElem? (i := 0) rfl) rfl) (by decide) (by decide) rfl hl rfl (Nat.le_of_ble_eq_true rfl) dX1_readKeys_30 (by omega) (fun ux ce9 H locs hux h hce9 hcv9 hcl9 => ?_) (fun _ H locs hu h => ?_)
          · obtain ⟨q8, n8, k8, b8, c8, g8, l8, W8⟩ := ux
            obtain ⟨hx1, hx2, ⟨hx3, hx5, hx6⟩, hx4⟩ := hux
            dsimp only at hx1 hx2 hx3 hx4 hx5 hx6 h
            have hgr8 := gro_b (cap := cap) (m := lw.length) (by omega)
            obtain ⟨E8, hp8, h⟩ := Wd.grow hold hx4 h
            have hkn9 := hkn.trans (keysN_none hnl hfu0 hpk9)
            obtain ⟨x8, hx8⟩ := hx1
            have hq8 : (q8, .inr (10, fts x8 (-1 - nI nx))) ∈ [(ho, .inr (2, [.ref st, .ref fi, .ref bl, .long u.1, .ref wo])), (st, war dA 5 u.2.1), (wo, war dA 80 u.2.2.1), (bl, bar dA 64 u.2.2.2.2), (dg, bar dA 32 gd)] ++ ((ringW dA e0 (ra, lm, lx) Rg ++ (O ++ (F ++ E))) ++ E8) := by
              have := hp8.mem_iff.mp hx8
              rw [List.append_assoc] at this
              exact this
            have hq7 : (q8, .inr (10, fts x8 (-1 - nI nx))) ∈ (ringW dA e0 (ra, lm, lx) Rg ++ (O ++ (F ++ E))) ++ E8 := by
              rcases List.mem_append.mp hq8 with z | z
              · simp only [List.mem_cons, Prod.mk.injEq, List.not_mem_nil, or_false] at z
                rcases z with z | z | z | z | z <;> exact absurd z.2 (by intro q9; cases q9)
              · exact z
            have h : Wd D B s ([(ho, .inr (2, [.ref st, .ref fi, .ref bl, .long u.1, .ref wo])), (st, war dA 5 u.2.1), (wo, war dA 80 u.2.2.1), (bl, bar dA 64 u.2.2.2.2)] ++ ([(dg, bar dA 32 gd), (pk, .inr (1, [.ref b8, .int (nI l8.length)])), (b8, bar dA c8 g8)] ++ ([(o1, .inr (11, [.ref rb, .int (nI lw.length), .int (nI n8), .int (nI nx), .int (nI k8), va_rf bo, .ref pk]))] ++ ((ringW dA e0 (ra, lm, lx) Rg ++ (O ++ (F ++ E))) ++ E8)))) H locs := h.permL (perm_add (fun g f p0 p1 p2 => by (try simp only [p0, p1, p2]) <;> omega))
            have h : Wd D B s (h4C dA ho st fi bl wo u ++ ([(dg, bar dA 32 gd), (pk, .inr (1, [.ref b8, .int (nI l8.length)])), (b8, bar dA c8 g8)] ++ ([(o1, .inr (11, [.ref rb, .int (nI lw.length), .int (nI n8), .int (nI nx), .int (nI k8), va_rf bo, .ref pk]))] ++ ((ringW dA e0 (ra, lm, lx) Rg ++ (O ++ (F ++ E))) ++ E8)))) H locs := h
            have hft : FaultIn ([(o1, .inr (11, [.ref rb, .int (nI lw.length), .int (nI n8), .int (nI nx), .int (nI k8), va_rf bo, .ref pk]))] ++ ((ringW dA e0 (ra, lm, lx) Rg ++ (O ++ (F ++ E))) ++ E8)) q8 (tellN kr lw.length) := by
              unfold tellN
              rw [hkn9, if_neg (m1_ne (by omega))]
              exact ⟨x8, List.mem_append_right _ hq7⟩
            have hk0 : kr.1 = 0 → kr.2.2.2 = 0 := fun q9 => by rw [hkn9] at q9; exact absurd q9 (m1_ne (by omega))
            subst hQ
            exact thr_out C hex hlocks h (q8, u, gd, (b8, c8, g8, l8), [(o1, .inr (11, [.ref rb, .int (nI lw.length), .int (nI n8), .int (nI nx), .int (nI k8), va_rf bo, .ref pk]))] ++ ((ringW dA e0 (ra, lm, lx) Rg ++ (O ++ (F ++ E))) ++ E8)) rfl rfl (⟨⟨hgd, hgb, hx2, hx3, by (try dsimp only) <;> omega⟩, hft, fun x9 hx9 => List.mem_append_right _ (List.mem_append_left _ (List.mem_append_right _ (memOE hx9))), hk0⟩) rfl hce9 hcv9 hcl9 (by omega) (by omega)
          exact hu.elim
        · have hadv := pktS_adv hbt hpk9
          dsimp only at hadv
          obtain ⟨hv1, hv2, hbd, hk64⟩ := hadv
          have hadv := And.intro hv1 hv2
          have hbl : bd.length ≤ 4096 := by omega
          have hgr := gro_b (cap := cap) (m := bd.length) (by omega)
          have h : Wd D B s ([(o1, .inr (11, [.ref rb, .int (nI lw.length), .int (nI nx), .int (nI plc), .int (nI kd), va_rf bo, .ref pk])), (pk, .inr (1, [.ref b, .int (nI lr.length)])), (b, bar dA cap g), (ho, .inr (2, [.ref st, .ref fi, .ref bl, .long u.1, .ref wo])), (st, war dA 5 u.2.1), (wo, war dA 80 u.2.2.1), (bl, bar dA 64 u.2.2.2.2), (dg, bar dA 32 gd)] ++ (ringW dA e0 (ra, lm, lx) Rg ++ (O ++ (F ++ E)))) H locs := h.perm [0, 6, 7, 1, 2, 3, 4, 5] rfl rfl
          have hold : Wd D B s ([(o1, .inr (11, [.ref rb, .int (nI lw.length), .int (nI nx), .int (nI plc), .int (nI kd), va_rf bo, .ref pk])), (pk, .inr (1, [.ref b, .int (nI lr.length)])), (b, bar dA cap g)] ++ ([(ho, .inr (2, [.ref st, .ref fi, .ref bl, .long u.1, .ref wo])), (st, war dA 5 u.2.1), (wo, war dA 80 u.2.2.1), (bl, bar dA 64 u.2.2.2.2), (dg, bar dA 32 gd)] ++ (ringW dA e0 (ra, lm, lx) Rg ++ (O ++ (F ++ E))))) H locs := h
          have hrc : rC cap bd.length = (gro cap bd.length - cap) / 64 := rfl
          have hrs : rS cap bd.length = 2 * (gro cap bd.length - cap) := rfl
          refine call_VR (As := []) (rest := []) (n := 0) C h (c14_next l D dA B Z hZ ([(ho, .inr (2, [.ref st, .ref fi, .ref bl, .long u.1, .ref wo])), (st, war dA 5 u.2.1), (wo, war dA 80 u.2.2.1), (bl, bar dA 64 u.2.2.2.2), (dg, bar dA 32 gd)] ++ (ringW dA e0 (ra, lm, lx) Rg ++ (O ++ (F ++ E)))) o1 rb n0 pk gq lw nx plc kd bo b cap g lr k2 n2 bd (List.mem_append_right _ (List.mem_append_right _ (memOE hrb))) hsb hbt hn0 hl4 (by omega) hsr hcap hcm hpk9) (lw_V q1055 q1056 q1057 q162 q1058) (by decide +kernel) (o_recv C h (RC := RX14) (T := TX14) (N := 7) (List.mem_of_getElem? (i := 0) rfl) rfl) (by decide) (by decide) rfl hl rfl (Nat.le_of_ble_eq_true rfl) dX1_readKeys_30 (by omega) (fun u8 H locs hu8 h => ?_)
          obtain ⟨bo2, b2, g2, W9⟩ := u8
          obtain ⟨hsr2, hbo2, hsub⟩ := hu8
          dsimp only at hsr2 hbo2 hsub h
          obtain ⟨E1, hp1, h⟩ := Wd.grow hold hsub h
          have hgc : 64 ≤ gro cap bd.length ∧ gro cap bd.length < 400000 := ⟨by omega, by omega⟩
          have hRg1 : RgS dA cx (F ++ (E ++ E1)) (ra, lm, lx) Rg := hRg.sub (fun z hz => by rw [← List.append_assoc]; exact List.mem_append_left _ hz)
          have h : Wd D B s ([(o1, .inr (11, [.ref rb, .int (nI lw.length), .int (nI n2), .int (nI nx), .int (nI k2), va_rf bo2, .ref pk])), (ho, .inr (2, [.ref st, .ref fi, .ref bl, .long u.1, .ref wo])), (st, war dA 5 u.2.1), (wo, war dA 80 u.2.2.1), (bl, bar dA 64 u.2.2.2.2), (dg, bar dA 32 gd), (pk, .inr (1, [.ref b2, .int (nI bd.length)])), (b2, bar dA (gro cap bd.length) g2)] ++ (ringW dA e0 (ra, lm, lx) Rg ++ (O ++ (F ++ (E ++ E1))))) H locs := h.permL (perm_add (fun g f p0 p1 p2 => by (try simp only [p0, p1, p2]) <;> omega))
          rcases (show (k2 = 10 ∨ k2 = 12 ∨ k2 = 17 ∨ 40 ≤ k2) ∨ k2 = 5 ∨ k2 = 6 ∨ k2 = 7 ∨ k2 = 14 ∨ k2 = 13 ∨ k2 = 2 ∨ (¬ (k2 = 10 ∨ k2 = 12 ∨ k2 = 17 ∨ 40 ≤ k2) ∧ k2 ≠ 5 ∧ k2 ≠ 6 ∧ k2 ≠ 7 ∧ k2 ≠ 14 ∧ k2 ≠ 13 ∧ k2 ≠ 2) by omega) with hk | hk | hk | hk | hk | hk | hk | hk
          · refine lv_aload_n hx hb dX1_readKeys_33 rfl (lv_at hl 3 rfl) ?_
            refine call_VR (As := []) (rest := []) (n := 0) C h (c14_isPassed l D dA B Z hZ ([(ho, .inr (2, [.ref st, .ref fi, .ref bl, .long u.1, .ref wo])), (st, war dA 5 u.2.1), (wo, war dA 80 u.2.2.1), (bl, bar dA 64 u.2.2.2.2), (dg, bar dA 32 gd), (pk, .inr (1, [.ref b2, .int (nI bd.length)])), (b2, bar dA (gro cap bd.length) g2)] ++ (ringW dA e0 (ra, lm, lx) Rg ++ (O ++ (F ++ (E ++ E1))))) o1 rb pk lw.length n2 nx k2 bo2 (by omega)) (lw_V q1084 q1085 q1086 q162 q1087) (by decide +kernel) (o_recv C h (RC := RX14) (T := TX14) (N := 7) (List.mem_of_getElem? (i := 0) rfl) rfl) (by decide) (by decide) rfl hl rfl (Nat.le_of_ble_eq_true rfl) dX1_readKeys_34 (by omega) (fun _ H locs _ h => ?_)
            have h : Wd D B s ([(o1, .inr (11, [.ref rb, .int (nI lw.length), .int (nI n2), .int (nI nx), .int (nI k2), va_rf bo2, .ref pk])), (ho, .inr (2, [.ref st, .ref fi, .ref bl, .long u.1, .ref wo])), (st, war dA 5 u.2.1), (wo, war dA 80 u.2.2.1), (bl, bar dA 64 u.2.2.2.2), (dg, bar dA 32 gd), (pk, .inr (1, [.ref b2, .int (nI bd.length)])), (b2, bar dA (gro cap bd.length) g2)] ++ (ringW dA e0 (ra, lm, lx) Rg ++ (O ++ (F ++ (E ++ E1))))) H locs := h
            have h : Wd D B s ([(o1, .inr (11, [.ref rb, .int (nI lw.length), .int (nI n2), .int (nI nx), .int (nI k2), va_rf bo2, .ref pk])), (ho, .inr (2, [.ref st, .ref fi, .ref bl, .long u.1, .ref wo])), (st, war dA 5 u.2.1), (wo, war dA 80 u.2.2.1), (bl, bar dA 64 u.2.2.2.2), (dg, bar dA 32 gd), (pk, .inr (1, [.ref b2, .int (nI bd.length)])), (b2, bar dA (gro cap bd.length) g2)] ++ (ringW dA e0 (ra, lm, lx) Rg ++ (O ++ (F ++ (E ++ E1))))) H locs := h.permL (perm_add (fun g f p0 p1 p2 => by (try simp only [p0, p1, p2]) <;> omega))
            refine z_if_eq (tgt := 43) hx hb dX1_readKeys_37 (by decide) (fun c37 => by exfalso; rw [decide_eq_true hk] at c37; cases c37) (fun c37 => ?_)
            refine lv_goto (tgt := 22) hx hb dX1_readKeys_40 (by decide) ?_
            exact ih n2 nx k2 bo2 b2 (gro cap bd.length) g2 bd u gd lm lx Rg cx cu ko lo many (fu - 1) (E ++ E1) _ _ hadv.1 hsr2 hgc.1 hgc.2 hgb hgd hRg1 hcx hcur (hkn.trans (keysN_go hnl hfu0 hpk9 (pkN_pass hk))) (by omega) (by omega) (by (try dsimp only) <;> omega) (by (try dsimp only) <;> omega) (by omega) _ _ h _ (lv_sub hl [0, 1, 2, 3, 4, 5, 6] rfl)
          · have hkp : ¬ (k2 = 10 ∨ k2 = 12 ∨ k2 = 17 ∨ 40 ≤ k2) := by omega
            rw [if_neg (show ¬ k2 = 11 by omega)] at hbo2
            obtain ⟨q0, e8, hq8, hfr8⟩ := hbo2
            have hq1 := mem_new hp1 hq8 hfr8
            rw [e8] at h
            have hq2 : (q0, bal dA bd) ∈ F ++ (E ++ E1) := List.mem_append_right _ (List.mem_append_right _ hq1)
            have h : Wd D B s ([(o1, .inr (11, [.ref rb, .int (nI lw.length), .int (nI n2), .int (nI nx), .int (nI k2), .ref q0, .ref pk])), (ho, .inr (2, [.ref st, .ref fi, .ref bl, .long u.1, .ref wo])), (st, war dA 5 u.2.1), (wo, war dA 80 u.2.2.1), (bl, bar dA 64 u.2.2.2.2), (dg, bar dA 32 gd), (pk, .inr (1, [.ref b2, .int (nI bd.length)])), (b2, bar dA (gro cap bd.length) g2)] ++ (ringW dA e0 (ra, lm, lx) Rg ++ (O ++ (F ++ (E ++ E1))))) H locs := h
            refine lv_aload_n hx hb dX1_readKeys_33 rfl (lv_at hl 3 rfl) ?_
            refine call_VR (As := []) (rest := []) (n := 0) C h (c14_isPassed l D dA B Z hZ ([(ho, .inr (2, [.ref st, .ref fi, .ref bl, .long u.1, .ref wo])), (st, war dA 5 u.2.1), (wo, war dA 80 u.2.2.1), (bl, bar dA 64 u.2.2.2.2), (dg, bar dA 32 gd), (pk, .inr (1, [.ref b2, .int (nI bd.length)])), (b2, bar dA (gro cap bd.length) g2)] ++ (ringW dA e0 (ra, lm, lx) Rg ++ (O ++ (F ++ (E ++ E1))))) o1 rb pk lw.length n2 nx k2 (some q0) (by omega)) (lw_V q1084 q1085 q1086 q162 q1087) (by decide +kernel) (o_recv C h (RC := RX14) (T := TX14) (N := 7) (List.mem_of_getElem? (i := 0) rfl) rfl) (by decide) (by decide) rfl hl rfl (Nat.le_of_ble_eq_true rfl) dX1_readKeys_34 (by omega) (fun _ H locs _ h => ?_)
            have h : Wd D B s ([(o1, .inr (11, [.ref rb, .int (nI lw.length), .int (nI n2), .int (nI nx), .int (nI k2), .ref q0, .ref pk])), (ho, .inr (2, [.ref st, .ref fi, .ref bl, .long u.1, .ref wo])), (st, war dA 5 u.2.1), (wo, war dA 80 u.2.2.1), (bl, bar dA 64 u.2.2.2.2), (dg, bar dA 32 gd), (pk, .inr (1, [.ref b2, .int (nI bd.length)])), (b2, bar dA (gro cap bd.length) g2)] ++ (ringW dA e0 (ra, lm, lx) Rg ++ (O ++ (F ++ (E ++ E1))))) H locs := h
            have h : Wd D B s ([(o1, .inr (11, [.ref rb, .int (nI lw.length), .int (nI n2), .int (nI nx), .int (nI k2), .ref q0, .ref pk])), (ho, .inr (2, [.ref st, .ref fi, .ref bl, .long u.1, .ref wo])), (st, war dA 5 u.2.1), (wo, war dA 80 u.2.2.1), (bl, bar dA 64 u.2.2.2.2), (dg, bar dA 32 gd), (pk, .inr (1, [.ref b2, .int (nI bd.length)])), (b2, bar dA (gro cap bd.length) g2)] ++ (ringW dA e0 (ra, lm, lx) Rg ++ (O ++ (F ++ (E ++ E1))))) H locs := h.permL (perm_add (fun g f p0 p1 p2 => by (try simp only [p0, p1, p2]) <;> omega))
            refine z_if_eq (tgt := 43) hx hb dX1_readKeys_37 (by decide) (fun c37 => ?_) (fun c37 => by exfalso; exact hkp (of_decide_eq_true c37))
            refine lv_aload_n hx hb dX1_readKeys_43 rfl (lv_at hl 3 rfl) ?_
            refine o_get C h (RC := RX14) (T := TX14) (N := 7) (List.mem_of_getElem? (i := 0) rfl) rfl in_X14 4 (by decide) q1031 rfl (v := .int (nI k2)) rfl dX1_readKeys_44 ?_
            refine lv_bipush (v := nI 6) hx hb dX1_readKeys_47 (by decide) ?_
            refine n_icmp_eq (tgt := 60) hx hb (by omega) (by omega) dX1_readKeys_49 (by decide) (fun c49 => by exfalso; omega) (fun c49 => ?_)
            refine lv_aload_n hx hb dX1_readKeys_52 rfl (lv_at hl 3 rfl) ?_
            refine o_get C h (RC := RX14) (T := TX14) (N := 7) (List.mem_of_getElem? (i := 0) rfl) rfl in_X14 4 (by decide) q1031 rfl (v := .int (nI k2)) rfl dX1_readKeys_53 ?_
            refine lv_iconst (v := nI 5) hx hb dX1_readKeys_56 (by decide) ?_
            refine n_icmp_ne (tgt := 64) hx hb (by omega) (by omega) dX1_readKeys_57 (by decide) (fun c57 => by exfalso; omega) (fun c57 => ?_)
            refine lv_iconst (v := nI 1) hx hb dX1_readKeys_60 (by decide) ?_
            refine lv_goto (tgt := 65) hx hb dX1_readKeys_61 (by decide) ?_
            refine lv_istore (lv' := [(7, .int (nI 1)), (0, .ref me), (1, .ref ra), (2, .ref ro), (3, .ref o1), (4, va_rf ko), (5, va_rf lo), (6, .int (nI many))]) hx hb dX1_readKeys_65 hl (by decide) rfl (fun ls hl => ?_)
            refine lv_aload_n hx hb dX1_readKeys_67 rfl (lv_at hl 4 rfl) ?_
            refine o_get C h (RC := RX14) (T := TX14) (N := 7) (List.mem_of_getElem? (i := 0) rfl) rfl in_X14 4 (by decide) q1031 rfl (v := .int (nI k2)) rfl dX1_readKeys_68 ?_
            refine lv_bipush (v := nI 14) hx hb dX1_readKeys_71 (by decide) ?_
            refine n_icmp_eq (tgt := 85) hx hb (by omega) (by omega) dX1_readKeys_73 (by decide) (fun c73 => by exfalso; omega) (fun c73 => ?_)
            refine lv_aload_n hx hb dX1_readKeys_76 rfl (lv_at hl 4 rfl) ?_
            refine o_get C h (RC := RX14) (T := TX14) (N := 7) (List.mem_of_getElem? (i := 0) rfl) rfl in_X14 4 (by decide) q1031 rfl (v := .int (nI k2)) rfl dX1_readKeys_77 ?_
            refine lv_bipush (v := nI 7) hx hb dX1_readKeys_80 (by decide) ?_
            refine n_icmp_ne (tgt := 89) hx hb (by omega) (by omega) dX1_readKeys_82 (by decide) (fun c82 => ?_) (fun c82 => by exfalso; omega)
            refine lv_iconst (v := nI 0) hx hb dX1_readKeys_89 (by decide) ?_
            refine lv_istore (lv' := [(8, .int (nI 0)), (7, .int (nI 1)), (0, .ref me), (1, .ref ra), (2, .ref ro), (3, .ref o1), (4, va_rf ko), (5, va_rf lo), (6, .int (nI many))]) hx hb dX1_readKeys_90 hl (by decide) rfl (fun ls hl => ?_)
            refine lv_iload hx hb dX1_readKeys_92 (lv_at hl 1 rfl) ?_
            refine n_if_ne (tgt := 129) hx hb (by omega) dX1_readKeys_94 (by decide) (fun c94 => ?_) (fun c94 => by exfalso; omega)
            refine lv_iload hx hb dX1_readKeys_129 (lv_at hl 1 rfl) ?_
            refine n_if_ne (tgt := 139) hx hb (by omega) dX1_readKeys_131 (by decide) (fun c131 => ?_) (fun c131 => by exfalso; omega)
            refine lv_aload_n hx hb dX1_readKeys_139 rfl (lv_at hl 2 rfl) ?_
            refine lv_aload_n hx hb dX1_readKeys_140 rfl (lv_at hl 5 rfl) ?_
            refine o_get C h (RC := RX14) (T := TX14) (N := 7) (List.mem_of_getElem? (i := 0) rfl) rfl in_X14 5 (by decide) q1033 rfl (v := .ref q0) rfl dX1_readKeys_141 ?_
            refine lv_aload_n hx hb dX1_readKeys_144 rfl (lv_at hl 5 rfl) ?_
            refine o_get C h (RC := RX14) (T := TX14) (N := 7) (List.mem_of_getElem? (i := 0) rfl) rfl in_X14 4 (by decide) q1031 rfl (v := .int (nI k2)) rfl dX1_readKeys_145 ?_
            refine lv_iconst (v := nI 5) hx hb dX1_readKeys_148 (by decide) ?_
            refine n_icmp_eq (tgt := 161) hx hb (by omega) (by omega) dX1_readKeys_149 (by decide) (fun c149 => ?_) (fun c149 => by exfalso; omega)
            refine lv_iconst (v := nI 1) hx hb dX1_readKeys_161 (by decide) ?_
            refine lv_goto (tgt := 166) hx hb dX1_readKeys_162 (by decide) ?_
            refine n_top (y := bZ true) rfl ?_
            have h : Wd D B s ([(ho, .inr (2, [.ref st, .ref fi, .ref bl, .long u.1, .ref wo])), (st, war dA 5 u.2.1), (wo, war dA 80 u.2.2.1), (bl, bar dA 64 u.2.2.2.2), (dg, bar dA 32 gd), (o1, .inr (11, [.ref rb, .int (nI lw.length), .int (nI n2), .int (nI nx), .int (nI k2), .ref q0, .ref pk])), (pk, .inr (1, [.ref b2, .int (nI bd.length)])), (b2, bar dA (gro cap bd.length) g2)] ++ (ringW dA e0 (ra, lm, lx) Rg ++ (O ++ (F ++ (E ++ E1))))) H locs := h.perm [1, 2, 3, 4, 5, 0, 6, 7] rfl rfl
            have h : Wd D B s (h4C dA ho st fi bl wo u ++ ([(dg, bar dA 32 gd)] ++ ([(o1, .inr (11, [.ref rb, .int (nI lw.length), .int (nI n2), .int (nI nx), .int (nI k2), .ref q0, .ref pk])), (pk, .inr (1, [.ref b2, .int (nI bd.length)])), (b2, bar dA (gro cap bd.length) g2)] ++ (ringW dA e0 (ra, lm, lx) Rg ++ (O ++ (F ++ (E ++ E1))))))) H locs := h
            refine call_VR (As := [.ref q0, .int (bZ true)]) (rest := []) (n := 2) C h (c1_numbers l D dA B Z hZ ([(o1, .inr (11, [.ref rb, .int (nI lw.length), .int (nI n2), .int (nI nx), .int (nI k2), .ref q0, .ref pk])), (pk, .inr (1, [.ref b2, .int (nI bd.length)])), (b2, bar dA (gro cap bd.length) g2)] ++ (ringW dA e0 (ra, lm, lx) Rg ++ (O ++ (F ++ (E ++ E1))))) ho st fi bl wo me bs dc ou rg h2 dg tk pl pk tx sd sz po u gd q0 bd true (List.mem_append_right _ (List.mem_append_right _ (memOE hfi))) (List.mem_append_right _ (List.mem_append_right _ (memOE hmC))) hgb hgd (List.mem_append_right _ (List.mem_append_right _ (List.mem_append_right _ hq2))) hbd hbl) (lw_V q1089 q1091 qs11 q129 q1092) (by decide +kernel) (o_recv C h (RC := RX1) (T := TX1) (N := 14) (List.mem_append_right _ (List.mem_append_right _ (List.mem_append_right _ (List.mem_append_right _ (memOE hmC))))) rfl) (by decide) (by decide) rfl hl rfl (Nat.le_of_ble_eq_true rfl) dX1_readKeys_166 (by omega) (fun u8 H locs hu8 h => ?_)
            obtain ⟨uh, ug, nq, E2⟩ := u8
            obtain ⟨hgd2, hgb2, hno2, hyes2⟩ := hu8
            dsimp only at hgd2 hgb2 hno2 hyes2 h
            have h : Wd D B s ([(ho, .inr (2, [.ref st, .ref fi, .ref bl, .long uh.1, .ref wo])), (st, war dA 5 uh.2.1), (wo, war dA 80 uh.2.2.1), (bl, bar dA 64 uh.2.2.2.2)] ++ ([(dg, bar dA 32 ug)] ++ (([(o1, .inr (11, [.ref rb, .int (nI lw.length), .int (nI n2), .int (nI nx), .int (nI k2), .ref q0, .ref pk])), (pk, .inr (1, [.ref b2, .int (nI bd.length)])), (b2, bar dA (gro cap bd.length) g2)] ++ (ringW dA e0 (ra, lm, lx) Rg ++ (O ++ (F ++ (E ++ E1))))) ++ E2))) H locs := h
            have h : Wd D B s ([(o1, .inr (11, [.ref rb, .int (nI lw.length), .int (nI n2), .int (nI nx), .int (nI k2), .ref q0, .ref pk])), (ho, .inr (2, [.ref st, .ref fi, .ref bl, .long uh.1, .ref wo])), (st, war dA 5 uh.2.1), (wo, war dA 80 uh.2.2.1), (bl, bar dA 64 uh.2.2.2.2), (dg, bar dA 32 ug), (pk, .inr (1, [.ref b2, .int (nI bd.length)])), (b2, bar dA (gro cap bd.length) g2)] ++ (ringW dA e0 (ra, lm, lx) Rg ++ (O ++ (F ++ ((E ++ E1) ++ E2))))) H locs := h.permL (perm_add (fun g f p0 p1 p2 => by (try simp only [p0, p1, p2]) <;> omega))
            have hRg2 : RgS dA cx (F ++ ((E ++ E1) ++ E2)) (ra, lm, lx) Rg := hRg1.sub (fun z hz => by rw [← List.append_assoc]; exact List.mem_append_left _ hz)
            by_cases hok : keyOk bd true = true
            · obtain ⟨qn, e7, hN0⟩ := hyes2 hok
              rw [e7]
              show W p l e R s m args below meth c H locs (cc + 0 + (rC cap bd.length + 1) + 0 + 10) (cs + 0 + (rS cap bd.length + bd.length) + 0 + (7 * bd.length + 29)) Q (F0 m 169 ls [.ref qn])
              obtain ⟨nn, hnn⟩ : ∃ z : NBr, z = (qn, bd.take (kSize bd), secO bd true) := ⟨_, rfl⟩
              rw [← hnn] at hN0
              have hqn : qn = nn.1 := by rw [hnn]
              rw [hqn]
              have hnc : nn.2 = numN bd true := by rw [hnn]; rfl
              have hN : NumIn dA (F ++ ((E ++ E1) ++ E2)) nn := hN0.rt.rt
              have hbig : 63 ≤ bd.length := by
                have z := keyOk_nums hok hbd (by omega)
                have l1 : (kU1 bd).2.1 ≤ bd.length := (oneS_le (Nat.zero_le _)).1
                have l2 : (kU2 bd).2.1 ≤ bd.length := (someS_ok hbd 4 0 0 _ l1 (by decide)).2.1
                have l3 : (kU3 bd).2.1 ≤ bd.length := (oneS_le l2).1
                have z2 : (kN bd).length ≤ bd.length := (numS_ok hbd _ l3).2.2.1
                omega
              refine lv_goto (tgt := 173) hx hb dX1_readKeys_169 (by decide) ?_
              refine lv_astore (lv' := [(9, .ref nn.1), (8, .int (nI 0)), (7, .int (nI 1)), (0, .ref me), (1, .ref ra), (2, .ref ro), (3, .ref o1), (4, va_rf ko), (5, va_rf lo), (6, .int (nI many))]) hx hb dX1_readKeys_173 hl (by decide) rfl (fun ls hl => ?_)
              refine lv_iload hx hb dX1_readKeys_175 (lv_at hl 2 rfl) ?_
              refine n_if_ne (tgt := 185) hx hb (by omega) dX1_readKeys_177 (by decide) (fun c177 => ?_) (fun c177 => by exfalso; omega)
              refine lv_aload hx hb dX1_readKeys_185 (lv_at hl 0 rfl) ?_
              refine lv_ifnonnull (tgt := 195) hx hb dX1_readKeys_187 (by decide) ?_
              refine lv_iload hx hb dX1_readKeys_195 (lv_at hl 2 rfl) ?_
              refine n_if_eq (tgt := 219) hx hb (by omega) dX1_readKeys_197 (by decide) (fun c197 => by exfalso; omega) (fun c197 => ?_)
              refine lv_aload_n hx hb dX1_readKeys_200 rfl (lv_at hl 4 rfl) ?_
              refine lv_aload hx hb dX1_readKeys_201 (lv_at hl 0 rfl) ?_
              refine lv_aload_n hx hb dX1_readKeys_203 rfl (lv_at hl 6 rfl) ?_
              rcases find_ix (f := kyHas (sha1 (keyMsg nn.2.1))) Rg with hf | ⟨i0, k, hi, hyes, hno, hf⟩
              · have hno : ∀ j y, j < Rg.length → Rg[j]? = some y → kyHas (sha1 (keyMsg nn.2.1)) y = false := fun j y _ hy => Bool.eq_false_iff.mpr (List.find?_eq_none.mp hf y (List.mem_of_getElem? hy))
                have hR16 := hRg2.1.2.2
                rcases (show Rg.length < 16 ∨ Rg.length = 16 by omega) with h16 | h16
                · have h : Wd D B s (ringW dA e0 (ra, lm, lx) Rg ++ (([(o1, .inr (11, [.ref rb, .int (nI lw.length), .int (nI n2), .int (nI nx), .int (nI k2), .ref q0, .ref pk])), (ho, .inr (2, [.ref st, .ref fi, .ref bl, .long uh.1, .ref wo])), (st, war dA 5 uh.2.1), (wo, war dA 80 uh.2.2.1), (bl, bar dA 64 uh.2.2.2.2), (dg, bar dA 32 ug), (pk, .inr (1, [.ref b2, .int (nI bd.length)])), (b2, bar dA (gro cap bd.length) g2)] ++ O) ++ (F ++ ((E ++ E1) ++ E2)))) H locs := h.permL (perm_add (fun g f p0 p1 p2 => by (try simp only [p0, p1, p2]) <;> omega))
                  refine call_S (As := [.ref ra, .ref nn.1, .ref o1]) (rest := []) (n := 3) C h (cR_comesN l D dA B Z hZ ([(o1, .inr (11, [.ref rb, .int (nI lw.length), .int (nI n2), .int (nI nx), .int (nI k2), .ref q0, .ref pk])), (ho, .inr (2, [.ref st, .ref fi, .ref bl, .long uh.1, .ref wo])), (st, war dA 5 uh.2.1), (wo, war dA 80 uh.2.2.1), (bl, bar dA 64 uh.2.2.2.2), (dg, bar dA 32 ug), (pk, .inr (1, [.ref b2, .int (nI bd.length)])), (b2, bar dA (gro cap bd.length) g2)] ++ O) (F ++ ((E ++ E1) ++ E2)) e0 mi (ra, lm, lx) Rg nn o1 rb lw.length n2 nx k2 pk (some q0) hzs hza hRg2.1 hRg2.num hN hno h16) (lw_S q1253 q1254 q129 q1255) (by decide +kernel) (by decide) (by decide) rfl hl rfl (Nat.le_of_ble_eq_true rfl) dX1_readKeys_204 (by omega) (fun u8 H locs hu8 h => ?_)
                  obtain ⟨k9, ⟨ra9, lm9, lx9⟩, E3⟩ := u8
                  obtain ⟨hk9, hra, hL9⟩ := hu8
                  dsimp only at hk9 hra hL9 h
                  rw [hra] at h hL9
                  obtain ⟨R9, hR9⟩ : ∃ z, z = Rg ++ [k9] := ⟨_, rfl⟩
                  rw [← hR9] at h hL9
                  have h : Wd D B s ([(o1, .inr (11, [.ref rb, .int (nI lw.length), .int (nI n2), .int (nI nx), .int (nI k2), .ref q0, .ref pk])), (ho, .inr (2, [.ref st, .ref fi, .ref bl, .long uh.1, .ref wo])), (st, war dA 5 uh.2.1), (wo, war dA 80 uh.2.2.1), (bl, bar dA 64 uh.2.2.2.2), (dg, bar dA 32 ug), (pk, .inr (1, [.ref b2, .int (nI bd.length)])), (b2, bar dA (gro cap bd.length) g2)] ++ (ringW dA e0 (ra, lm9, lx9) R9 ++ (O ++ (F ++ (((E ++ E1) ++ E2) ++ E3))))) H locs := h.permL (perm_add (fun g f p0 p1 p2 => by (try simp only [p0, p1, p2]) <;> omega))
                  have hRg3 : RgS dA cx (F ++ (((E ++ E1) ++ E2) ++ E3)) (ra, lm9, lx9) R9 := by
                    have z : RgS dA cx (F ++ (((E ++ E1) ++ E2) ++ E3)) (ra, lm, lx) Rg := hRg2.sub (fun z hz => by rw [← List.append_assoc]; exact List.mem_append_left _ hz)
                    obtain ⟨ka, a1, a2, a3, e⟩ := hk9
                    rw [hR9] at hL9 ⊢
                    refine z.snoc hL9 ?_
                    rw [e]
                    exact KyS.new (hN.sub (fun b q hq => by rw [← List.append_assoc]; exact List.mem_append_left _ hq) (fun a fs hq => by rw [← List.append_assoc]; exact List.mem_append_left _ hq)) ka a1 a2 a3
                  have hcur3 : CurA R9 (some (Rg.length, 0, 0)) (some k9.1) (some k9.1) := ⟨k9, by rw [hR9]; exact List.getElem?_concat_length, rfl, Or.inl ⟨rfl, rfl⟩⟩
                  have hp3 : pkN (Rg.map kcK, cu, many) k2 bd = some (R9.map kcK, some (Rg.length, 0, 0), many + 1) := by rw [pkN_key (by omega), show decide (k2 = 5) = true by rw [hk]; rfl, if_pos hok]; show keyN2 _ (cmN (Rg.map kcK) (numN bd true)) = _; rw [← hnc, cm_nw hno h16 hk9, hR9]; rfl
                  show W p l e R s m args below meth c H locs (cc + 0 + (rC cap bd.length + 1) + 0 + 10 + 5) (cs + 0 + (rS cap bd.length + bd.length) + 0 + (7 * bd.length + 29) + (2 * Rg.length + 24)) Q (F0 m 207 ls [.ref k9.1])
                  refine lv_astore (lv' := [(4, .ref k9.1), (9, .ref nn.1), (8, .int (nI 0)), (7, .int (nI 1)), (0, .ref me), (1, .ref ra), (2, .ref ro), (3, .ref o1), (5, va_rf lo), (6, .int (nI many))]) hx hb dX1_readKeys_207 hl (by decide) rfl (fun ls hl => ?_)
                  refine lv_aload hx hb dX1_readKeys_209 (lv_at hl 0 rfl) ?_
                  refine lv_astore (lv' := [(5, .ref k9.1), (4, .ref k9.1), (9, .ref nn.1), (8, .int (nI 0)), (7, .int (nI 1)), (0, .ref me), (1, .ref ra), (2, .ref ro), (3, .ref o1), (6, .int (nI many))]) hx hb dX1_readKeys_211 hl (by decide) rfl (fun ls hl => ?_)
                  refine lv_iinc (v := nI (many + 1)) (lv' := [(6, .int (nI (many + 1))), (5, .ref k9.1), (4, .ref k9.1), (9, .ref nn.1), (8, .int (nI 0)), (7, .int (nI 1)), (0, .ref me), (1, .ref ra), (2, .ref ro), (3, .ref o1)]) hx hb dX1_readKeys_213 hl (k := 9) rfl (nI_add many 1) (by decide) rfl (fun ls hl => ?_)
                  refine lv_goto (tgt := 310) hx hb dX1_readKeys_216 (by decide) ?_
                  refine lv_goto (tgt := 22) hx hb dX1_readKeys_310 (by decide) ?_
                  exact ih n2 nx k2 (some q0) b2 (gro cap bd.length) g2 bd uh ug lm9 lx9 R9 cx (some (Rg.length, 0, 0)) (some k9.1) (some k9.1) (many + 1) (fu - 1) (((E ++ E1) ++ E2) ++ E3) _ _ hadv.1 hsr2 hgc.1 hgc.2 hgb2 hgd2 hRg3 hcx hcur3 (hkn.trans (keysN_go hnl hfu0 hpk9 hp3)) (by omega) (by omega) (by (try dsimp only) <;> omega) (by (try dsimp only) <;> omega) (by omega) _ _ h _ (lv_sub hl [6, 7, 8, 9, 2, 1, 0] rfl)
                · have h : Wd D B s (ringW dA e0 (ra, lm, lx) Rg ++ (([(o1, .inr (11, [.ref rb, .int (nI lw.length), .int (nI n2), .int (nI nx), .int (nI k2), .ref q0, .ref pk])), (ho, .inr (2, [.ref st, .ref fi, .ref bl, .long uh.1, .ref wo])), (st, war dA 5 uh.2.1), (wo, war dA 80 uh.2.2.1), (bl, bar dA 64 uh.2.2.2.2), (dg, bar dA 32 ug), (pk, .inr (1, [.ref b2, .int (nI bd.length)])), (b2, bar dA (gro cap bd.length) g2)] ++ O) ++ (F ++ ((E ++ E1) ++ E2)))) H locs := h.permL (perm_add (fun g f p0 p1 p2 => by (try simp only [p0, p1, p2]) <;> omega))
                  refine call_SX (As := [.ref ra, .ref nn.1, .ref o1]) (rest := []) (n := 3) C h (cR_comesX l D dA B Z hZ ([(o1, .inr (11, [.ref rb, .int (nI lw.length), .int (nI n2), .int (nI nx), .int (nI k2), .ref q0, .ref pk])), (ho, .inr (2, [.ref st, .ref fi, .ref bl, .long uh.1, .ref wo])), (st, war dA 5 uh.2.1), (wo, war dA 80 uh.2.2.1), (bl, bar dA 64 uh.2.2.2.2), (dg, bar dA 32 ug), (pk, .inr (1, [.ref b2, .int (nI bd.length)])), (b2, bar dA (gro cap bd.length) g2)] ++ O) (F ++ ((E ++ E1) ++ E2)) e0 mi (ra, lm, lx) Rg nn o1 rb lw.length n2 nx k2 pk (some q0) hlt hzx hRg2.1 hRg2.num hN hno (List.mem_append_left _ (List.mem_append_left _ (List.mem_of_getElem? (i := 0) rfl))) h16) (lw_S q1253 q1254 q129 q1255) (by decide +kernel) (by decide) (by decide) rfl hl rfl (Nat.le_of_ble_eq_true rfl) dX1_readKeys_204 (by omega) (fun ux ce9 H locs hux h hce9 hcv9 hcl9 => ?_) (fun _ H locs hu h => ?_)
                  · obtain ⟨q8, E8⟩ := ux
                    dsimp only at hux h
                    have hkn9 := hkn.trans (keysN_bad hnl hfu0 hpk9 (by rw [pkN_key (by omega), show decide (k2 = 5) = true by rw [hk]; rfl, if_pos hok]; show keyN2 _ (cmN (Rg.map kcK) (numN bd true)) = _; rw [← hnc, cm_full hno h16]; rfl))
                    have h : Wd D B s ([(ho, .inr (2, [.ref st, .ref fi, .ref bl, .long uh.1, .ref wo])), (st, war dA 5 uh.2.1), (wo, war dA 80 uh.2.2.1), (bl, bar dA 64 uh.2.2.2.2)] ++ ([(dg, bar dA 32 ug), (pk, .inr (1, [.ref b2, .int (nI bd.length)])), (b2, bar dA (gro cap bd.length) g2)] ++ ([(o1, .inr (11, [.ref rb, .int (nI lw.length), .int (nI n2), .int (nI nx), .int (nI k2), .ref q0, .ref pk]))] ++ (ringW dA e0 (ra, lm, lx) Rg ++ (O ++ (F ++ (((E ++ E1) ++ E2) ++ E8))))))) H locs := h.permL (perm_add (fun g f p0 p1 p2 => by (try simp only [p0, p1, p2]) <;> omega))
                    have h : Wd D B s (h4C dA ho st fi bl wo uh ++ ([(dg, bar dA 32 ug), (pk, .inr (1, [.ref b2, .int (nI bd.length)])), (b2, bar dA (gro cap bd.length) g2)] ++ ([(o1, .inr (11, [.ref rb, .int (nI lw.length), .int (nI n2), .int (nI nx), .int (nI k2), .ref q0, .ref pk]))] ++ (ringW dA e0 (ra, lm, lx) Rg ++ (O ++ (F ++ (((E ++ E1) ++ E2) ++ E8))))))) H locs := h
                    have hft : FaultIn ([(o1, .inr (11, [.ref rb, .int (nI lw.length), .int (nI n2), .int (nI nx), .int (nI k2), .ref q0, .ref pk]))] ++ (ringW dA e0 (ra, lm, lx) Rg ++ (O ++ (F ++ (((E ++ E1) ++ E2) ++ E8))))) q8 (tellN kr lw.length) := by
                      unfold tellN
                      rw [hkn9, if_neg (m1_ne (by omega))]
                      exact hux.up (fun z hz => List.mem_append_right _ (List.mem_append_right _ (List.mem_append_right _ (List.mem_append_right _ (List.mem_append_right _ hz)))))
                    have hk0 : kr.1 = 0 → kr.2.2.2 = 0 := fun q9 => by rw [hkn9] at q9; exact absurd q9 (m1_ne (by omega))
                    subst hQ
                    exact thr_out C hex hlocks h (q8, uh, ug, (b2, gro cap bd.length, g2, bd), [(o1, .inr (11, [.ref rb, .int (nI lw.length), .int (nI n2), .int (nI nx), .int (nI k2), .ref q0, .ref pk]))] ++ (ringW dA e0 (ra, lm, lx) Rg ++ (O ++ (F ++ (((E ++ E1) ++ E2) ++ E8))))) rfl rfl (⟨⟨hgd2, hgb2, hsr2, hgc.1, hgc.2⟩, hft, fun x9 hx9 => List.mem_append_right _ (List.mem_append_right _ (memOE hx9)), hk0⟩) rfl hce9 hcv9 hcl9 (by omega) (by omega)
                  exact hu.elim
              · have h : Wd D B s (ringW dA e0 (ra, lm, lx) Rg ++ (([(o1, .inr (11, [.ref rb, .int (nI lw.length), .int (nI n2), .int (nI nx), .int (nI k2), .ref q0, .ref pk])), (ho, .inr (2, [.ref st, .ref fi, .ref bl, .long uh.1, .ref wo])), (st, war dA 5 uh.2.1), (wo, war dA 80 uh.2.2.1), (bl, bar dA 64 uh.2.2.2.2), (dg, bar dA 32 ug), (pk, .inr (1, [.ref b2, .int (nI bd.length)])), (b2, bar dA (gro cap bd.length) g2)] ++ O) ++ (F ++ ((E ++ E1) ++ E2)))) H locs := h.permL (perm_add (fun g f p0 p1 p2 => by (try simp only [p0, p1, p2]) <;> omega))
                refine call_S (As := [.ref ra, .ref nn.1, .ref o1]) (rest := []) (n := 3) C h (cR_comesH l D dA B Z hZ ([(o1, .inr (11, [.ref rb, .int (nI lw.length), .int (nI n2), .int (nI nx), .int (nI k2), .ref q0, .ref pk])), (ho, .inr (2, [.ref st, .ref fi, .ref bl, .long uh.1, .ref wo])), (st, war dA 5 uh.2.1), (wo, war dA 80 uh.2.2.1), (bl, bar dA 64 uh.2.2.2.2), (dg, bar dA 32 ug), (pk, .inr (1, [.ref b2, .int (nI bd.length)])), (b2, bar dA (gro cap bd.length) g2)] ++ O) (F ++ ((E ++ E1) ++ E2)) e0 mi (ra, lm, lx) Rg nn o1 i0 k hRg2.1 hRg2.num hN hi hno hyes) (lw_S q1253 q1254 q129 q1255) (by decide +kernel) (by decide) (by decide) rfl hl rfl (Nat.le_of_ble_eq_true rfl) dX1_readKeys_204 (by omega) (fun u8 H locs hu8 h => ?_)
                obtain ⟨n9, E3⟩ := u8
                obtain ⟨e91, hn9⟩ := hu8
                dsimp only at e91 hn9 h
                obtain ⟨R9, hR9⟩ : ∃ z, z = Rg.set i0 (k.1, n9, k.2.2) := ⟨_, rfl⟩
                rw [← hR9] at h
                have h : Wd D B s ([(o1, .inr (11, [.ref rb, .int (nI lw.length), .int (nI n2), .int (nI nx), .int (nI k2), .ref q0, .ref pk])), (ho, .inr (2, [.ref st, .ref fi, .ref bl, .long uh.1, .ref wo])), (st, war dA 5 uh.2.1), (wo, war dA 80 uh.2.2.1), (bl, bar dA 64 uh.2.2.2.2), (dg, bar dA 32 ug), (pk, .inr (1, [.ref b2, .int (nI bd.length)])), (b2, bar dA (gro cap bd.length) g2)] ++ (ringW dA e0 (ra, lm, lx) R9 ++ (O ++ (F ++ (((E ++ E1) ++ E2) ++ E3))))) H locs := h.permL (perm_add (fun g f p0 p1 p2 => by (try simp only [p0, p1, p2]) <;> omega))
                have hn8 : NumIn dA (F ++ (((E ++ E1) ++ E2) ++ E3)) n9 := by have z := hn9; rw [List.append_assoc] at z; exact z
                have hRg3 : RgS dA cx (F ++ (((E ++ E1) ++ E2) ++ E3)) (ra, lm, lx) R9 := by
                  have z : RgS dA cx (F ++ (((E ++ E1) ++ E2) ++ E3)) (ra, lm, lx) Rg := hRg2.sub (fun z hz => by rw [← List.append_assoc]; exact List.mem_append_left _ hz)
                  rw [hR9]
                  exact z.set hi rfl ((z.2 k (List.mem_of_getElem? hi)).num hn8 (by rw [e91]))
                have hcur3 : CurA R9 (some (i0, 0, 0)) (some k.1) (some k.1) := ⟨(k.1, n9, k.2.2), by rw [hR9]; exact List.getElem?_set_self (List.getElem?_eq_some_iff.mp hi).1, rfl, Or.inl ⟨rfl, rfl⟩⟩
                have hp3 : pkN (Rg.map kcK, cu, many) k2 bd = some (R9.map kcK, some (i0, 0, 0), many + 1) := by rw [pkN_key (by omega), show decide (k2 = 5) = true by rw [hk]; rfl, if_pos hok]; show keyN2 _ (cmN (Rg.map kcK) (numN bd true)) = _; rw [← hnc, cm_hit hi hno hyes e91, hR9]; rfl
                refine lv_astore (lv' := [(4, .ref k.1), (9, .ref nn.1), (8, .int (nI 0)), (7, .int (nI 1)), (0, .ref me), (1, .ref ra), (2, .ref ro), (3, .ref o1), (5, va_rf lo), (6, .int (nI many))]) hx hb dX1_readKeys_207 hl (by decide) rfl (fun ls hl => ?_)
                refine lv_aload hx hb dX1_readKeys_209 (lv_at hl 0 rfl) ?_
                refine lv_astore (lv' := [(5, .ref k.1), (4, .ref k.1), (9, .ref nn.1), (8, .int (nI 0)), (7, .int (nI 1)), (0, .ref me), (1, .ref ra), (2, .ref ro), (3, .ref o1), (6, .int (nI many))]) hx hb dX1_readKeys_211 hl (by decide) rfl (fun ls hl => ?_)
                refine lv_iinc (v := nI (many + 1)) (lv' := [(6, .int (nI (many + 1))), (5, .ref k.1), (4, .ref k.1), (9, .ref nn.1), (8, .int (nI 0)), (7, .int (nI 1)), (0, .ref me), (1, .ref ra), (2, .ref ro), (3, .ref o1)]) hx hb dX1_readKeys_213 hl (k := 9) rfl (nI_add many 1) (by decide) rfl (fun ls hl => ?_)
                refine lv_goto (tgt := 310) hx hb dX1_readKeys_216 (by decide) ?_
                refine lv_goto (tgt := 22) hx hb dX1_readKeys_310 (by decide) ?_
                exact ih n2 nx k2 (some q0) b2 (gro cap bd.length) g2 bd uh ug lm lx R9 cx (some (i0, 0, 0)) (some k.1) (some k.1) (many + 1) (fu - 1) (((E ++ E1) ++ E2) ++ E3) _ _ hadv.1 hsr2 hgc.1 hgc.2 hgb2 hgd2 hRg3 hcx hcur3 (hkn.trans (keysN_go hnl hfu0 hpk9 hp3)) (by omega) (by omega) (by (try dsimp only) <;> omega) (by (try dsimp only) <;> omega) (by omega) _ _ h _ (lv_sub hl [6, 7, 8, 9, 2, 1, 0] rfl)
            · have hok : keyOk bd true = false := by cases q9 : keyOk bd true with | true => exact absurd q9 hok | false => rfl
              rw [hno2 hok]
              show W p l e R s m args below meth c H locs (cc + 0 + (rC cap bd.length + 1) + 0 + 10) (cs + 0 + (rS cap bd.length + bd.length) + 0 + (7 * bd.length + 29)) Q (F0 m 169 ls [.null])
              refine lv_goto (tgt := 173) hx hb dX1_readKeys_169 (by decide) ?_
              refine lv_astoreN (lv' := [(9, .null), (8, .int (nI 0)), (7, .int (nI 1)), (0, .ref me), (1, .ref ra), (2, .ref ro), (3, .ref o1), (4, va_rf ko), (5, va_rf lo), (6, .int (nI many))]) hx hb dX1_readKeys_173 hl (by decide) rfl (fun ls hl => ?_)
              refine lv_iload hx hb dX1_readKeys_175 (lv_at hl 2 rfl) ?_
              refine n_if_ne (tgt := 185) hx hb (by omega) dX1_readKeys_177 (by decide) (fun c177 => ?_) (fun c177 => by exfalso; omega)
              refine lv_aloadN hx hb dX1_readKeys_185 (lv_at hl 0 rfl) ?_
              refine lv_ifnonnullN hx hb dX1_readKeys_187 ?_
              refine lv_aload_n hx hb dX1_readKeys_190 rfl (lv_at hl 6 rfl) ?_
              refine call_VR (As := []) (rest := []) (n := 0) C h (c14_fault l D dA B Z hZ _ o1 rb lw.length n2 nx k2 pk (some q0) hlt hzx (List.mem_of_getElem? (i := 0) rfl)) (lw_V q1088 q1064 q1065 q162 q1066) (by decide +kernel) (o_recv C h (RC := RX14) (T := TX14) (N := 7) (List.mem_of_getElem? (i := 0) rfl) rfl) (by decide) (by decide) rfl hl rfl (Nat.le_of_ble_eq_true rfl) dX1_readKeys_191 (by omega) (fun u8 H locs _ h => ?_)
              obtain ⟨q9, x9⟩ := u8
              have h : Wd D B s ([(q9, .inr (10, fts x9 (-1 - nI nx))), (o1, .inr (11, [.ref rb, .int (nI lw.length), .int (nI n2), .int (nI nx), .int (nI k2), .ref q0, .ref pk])), (ho, .inr (2, [.ref st, .ref fi, .ref bl, .long uh.1, .ref wo])), (st, war dA 5 uh.2.1), (wo, war dA 80 uh.2.2.1), (bl, bar dA 64 uh.2.2.2.2), (dg, bar dA 32 ug), (pk, .inr (1, [.ref b2, .int (nI bd.length)])), (b2, bar dA (gro cap bd.length) g2)] ++ (ringW dA e0 (ra, lm, lx) Rg ++ (O ++ (F ++ ((E ++ E1) ++ E2))))) H locs := h
              subst hQ
              have hkn9 := hkn.trans (keysN_bad hnl hfu0 hpk9 (by rw [pkN_key (by omega), if_neg]; rw [show decide (k2 = 5) = true by rw [hk]; rfl, hok]; decide))
              have h : Wd D B s ([(ho, .inr (2, [.ref st, .ref fi, .ref bl, .long uh.1, .ref wo])), (st, war dA 5 uh.2.1), (wo, war dA 80 uh.2.2.1), (bl, bar dA 64 uh.2.2.2.2)] ++ ([(dg, bar dA 32 ug), (pk, .inr (1, [.ref b2, .int (nI bd.length)])), (b2, bar dA (gro cap bd.length) g2)] ++ ([(q9, .inr (10, fts x9 (-1 - nI nx)))] ++ ([(o1, .inr (11, [.ref rb, .int (nI lw.length), .int (nI n2), .int (nI nx), .int (nI k2), .ref q0, .ref pk]))] ++ (ringW dA e0 (ra, lm, lx) Rg ++ (O ++ (F ++ ((E ++ E1) ++ E2)))))))) H locs := h.permL (perm_add (fun g f p0 p1 p2 => by (try simp only [p0, p1, p2]) <;> omega))
              have h : Wd D B s (h4C dA ho st fi bl wo uh ++ ([(dg, bar dA 32 ug), (pk, .inr (1, [.ref b2, .int (nI bd.length)])), (b2, bar dA (gro cap bd.length) g2)] ++ ([(q9, .inr (10, fts x9 (-1 - nI nx)))] ++ ([(o1, .inr (11, [.ref rb, .int (nI lw.length), .int (nI n2), .int (nI nx), .int (nI k2), .ref q0, .ref pk]))] ++ (ringW dA e0 (ra, lm, lx) Rg ++ (O ++ (F ++ ((E ++ E1) ++ E2)))))))) H locs := h
              have hft : FaultIn ([(q9, .inr (10, fts x9 (-1 - nI nx)))] ++ ([(o1, .inr (11, [.ref rb, .int (nI lw.length), .int (nI n2), .int (nI nx), .int (nI k2), .ref q0, .ref pk]))] ++ (ringW dA e0 (ra, lm, lx) Rg ++ (O ++ (F ++ ((E ++ E1) ++ E2)))))) q9 (tellN kr lw.length) := by
                unfold tellN
                rw [hkn9, if_neg (m1_ne (by omega))]
                exact ⟨x9, List.mem_append_left _ List.mem_cons_self⟩
              have hk0 : kr.1 = 0 → kr.2.2.2 = 0 := fun q9 => by rw [hkn9] at q9; exact absurd q9 (m1_ne (by omega))
              exact x_athrow C hex hlocks h (List.mem_append_right _ (List.mem_append_right _ (List.mem_append_left _ List.mem_cons_self))) rfl (q9, uh, ug, (b2, gro cap bd.length, g2, bd), [(q9, .inr (10, fts x9 (-1 - nI nx)))] ++ ([(o1, .inr (11, [.ref rb, .int (nI lw.length), .int (nI n2), .int (nI nx), .int (nI k2), .ref q0, .ref pk]))] ++ (ringW dA e0 (ra, lm, lx) Rg ++ (O ++ (F ++ ((E ++ E1) ++ E2)))))) rfl rfl (⟨⟨hgd2, hgb2, hsr2, hgc.1, hgc.2⟩, hft, fun x9 hx9 => List.mem_append_right _ (List.mem_append_right _ (List.mem_append_right _ (memOE hx9))), hk0⟩) rfl (by omega) (by omega) dX1_readKeys_194
          · have hkp : ¬ (k2 = 10 ∨ k2 = 12 ∨ k2 = 17 ∨ 40 ≤ k2) := by omega
            rw [if_neg (show ¬ k2 = 11 by omega)] at hbo2
            obtain ⟨q0, e8, hq8, hfr8⟩ := hbo2
            have hq1 := mem_new hp1 hq8 hfr8
            rw [e8] at h
            have hq2 : (q0, bal dA bd) ∈ F ++ (E ++ E1) := List.mem_append_right _ (List.mem_append_right _ hq1)
            have h : Wd D B s ([(o1, .inr (11, [.ref rb, .int (nI lw.length), .int (nI n2), .int (nI nx), .int (nI k2), .ref q0, .ref pk])), (ho, .inr (2, [.ref st, .ref fi, .ref bl, .long u.1, .ref wo])), (st, war dA 5 u.2.1), (wo, war dA 80 u.2.2.1), (bl, bar dA 64 u.2.2.2.2), (dg, bar dA 32 gd), (pk, .inr (1, [.ref b2, .int (nI bd.length)])), (b2, bar dA (gro cap bd.length) g2)] ++ (ringW dA e0 (ra, lm, lx) Rg ++ (O ++ (F ++ (E ++ E1))))) H locs := h
            refine lv_aload_n hx hb dX1_readKeys_33 rfl (lv_at hl 3 rfl) ?_
            refine call_VR (As := []) (rest := []) (n := 0) C h (c14_isPassed l D dA B Z hZ ([(ho, .inr (2, [.ref st, .ref fi, .ref bl, .long u.1, .ref wo])), (st, war dA 5 u.2.1), (wo, war dA 80 u.2.2.1), (bl, bar dA 64 u.2.2.2.2), (dg, bar dA 32 gd), (pk, .inr (1, [.ref b2, .int (nI bd.length)])), (b2, bar dA (gro cap bd.length) g2)] ++ (ringW dA e0 (ra, lm, lx) Rg ++ (O ++ (F ++ (E ++ E1))))) o1 rb pk lw.length n2 nx k2 (some q0) (by omega)) (lw_V q1084 q1085 q1086 q162 q1087) (by decide +kernel) (o_recv C h (RC := RX14) (T := TX14) (N := 7) (List.mem_of_getElem? (i := 0) rfl) rfl) (by decide) (by decide) rfl hl rfl (Nat.le_of_ble_eq_true rfl) dX1_readKeys_34 (by omega) (fun _ H locs _ h => ?_)
            have h : Wd D B s ([(o1, .inr (11, [.ref rb, .int (nI lw.length), .int (nI n2), .int (nI nx), .int (nI k2), .ref q0, .ref pk])), (ho, .inr (2, [.ref st, .ref fi, .ref bl, .long u.1, .ref wo])), (st, war dA 5 u.2.1), (wo, war dA 80 u.2.2.1), (bl, bar dA 64 u.2.2.2.2), (dg, bar dA 32 gd), (pk, .inr (1, [.ref b2, .int (nI bd.length)])), (b2, bar dA (gro cap bd.length) g2)] ++ (ringW dA e0 (ra, lm, lx) Rg ++ (O ++ (F ++ (E ++ E1))))) H locs := h
            have h : Wd D B s ([(o1, .inr (11, [.ref rb, .int (nI lw.length), .int (nI n2), .int (nI nx), .int (nI k2), .ref q0, .ref pk])), (ho, .inr (2, [.ref st, .ref fi, .ref bl, .long u.1, .ref wo])), (st, war dA 5 u.2.1), (wo, war dA 80 u.2.2.1), (bl, bar dA 64 u.2.2.2.2), (dg, bar dA 32 gd), (pk, .inr (1, [.ref b2, .int (nI bd.length)])), (b2, bar dA (gro cap bd.length) g2)] ++ (ringW dA e0 (ra, lm, lx) Rg ++ (O ++ (F ++ (E ++ E1))))) H locs := h.permL (perm_add (fun g f p0 p1 p2 => by (try simp only [p0, p1, p2]) <;> omega))
            refine z_if_eq (tgt := 43) hx hb dX1_readKeys_37 (by decide) (fun c37 => ?_) (fun c37 => by exfalso; exact hkp (of_decide_eq_true c37))
            refine lv_aload_n hx hb dX1_readKeys_43 rfl (lv_at hl 3 rfl) ?_
            refine o_get C h (RC := RX14) (T := TX14) (N := 7) (List.mem_of_getElem? (i := 0) rfl) rfl in_X14 4 (by decide) q1031 rfl (v := .int (nI k2)) rfl dX1_readKeys_44 ?_
            refine lv_bipush (v := nI 6) hx hb dX1_readKeys_47 (by decide) ?_
            refine n_icmp_eq (tgt := 60) hx hb (by omega) (by omega) dX1_readKeys_49 (by decide) (fun c49 => ?_) (fun c49 => by exfalso; omega)
            refine lv_iconst (v := nI 1) hx hb dX1_readKeys_60 (by decide) ?_
            refine lv_goto (tgt := 65) hx hb dX1_readKeys_61 (by decide) ?_
            refine lv_istore (lv' := [(7, .int (nI 1)), (0, .ref me), (1, .ref ra), (2, .ref ro), (3, .ref o1), (4, va_rf ko), (5, va_rf lo), (6, .int (nI many))]) hx hb dX1_readKeys_65 hl (by decide) rfl (fun ls hl => ?_)
            refine lv_aload_n hx hb dX1_readKeys_67 rfl (lv_at hl 4 rfl) ?_
            refine o_get C h (RC := RX14) (T := TX14) (N := 7) (List.mem_of_getElem? (i := 0) rfl) rfl in_X14 4 (by decide) q1031 rfl (v := .int (nI k2)) rfl dX1_readKeys_68 ?_
            refine lv_bipush (v := nI 14) hx hb dX1_readKeys_71 (by decide) ?_
            refine n_icmp_eq (tgt := 85) hx hb (by omega) (by omega) dX1_readKeys_73 (by decide) (fun c73 => by exfalso; omega) (fun c73 => ?_)
            refine lv_aload_n hx hb dX1_readKeys_76 rfl (lv_at hl 4 rfl) ?_
            refine o_get C h (RC := RX14) (T := TX14) (N := 7) (List.mem_of_getElem? (i := 0) rfl) rfl in_X14 4 (by decide) q1031 rfl (v := .int (nI k2)) rfl dX1_readKeys_77 ?_
            refine lv_bipush (v := nI 7) hx hb dX1_readKeys_80 (by decide) ?_
            refine n_icmp_ne (tgt := 89) hx hb (by omega) (by omega) dX1_readKeys_82 (by decide) (fun c82 => ?_) (fun c82 => by exfalso; omega)
            refine lv_iconst (v := nI 0) hx hb dX1_readKeys_89 (by decide) ?_
            refine lv_istore (lv' := [(8, .int (nI 0)), (7, .int (nI 1)), (0, .ref me), (1, .ref ra), (2, .ref ro), (3, .ref o1), (4, va_rf ko), (5, va_rf lo), (6, .int (nI many))]) hx hb dX1_readKeys_90 hl (by decide) rfl (fun ls hl => ?_)
            refine lv_iload hx hb dX1_readKeys_92 (lv_at hl 1 rfl) ?_
            refine n_if_ne (tgt := 129) hx hb (by omega) dX1_readKeys_94 (by decide) (fun c94 => ?_) (fun c94 => by exfalso; omega)
            refine lv_iload hx hb dX1_readKeys_129 (lv_at hl 1 rfl) ?_
            refine n_if_ne (tgt := 139) hx hb (by omega) dX1_readKeys_131 (by decide) (fun c131 => ?_) (fun c131 => by exfalso; omega)
            refine lv_aload_n hx hb dX1_readKeys_139 rfl (lv_at hl 2 rfl) ?_
            refine lv_aload_n hx hb dX1_readKeys_140 rfl (lv_at hl 5 rfl) ?_
            refine o_get C h (RC := RX14) (T := TX14) (N := 7) (List.mem_of_getElem? (i := 0) rfl) rfl in_X14 5 (by decide) q1033 rfl (v := .ref q0) rfl dX1_readKeys_141 ?_
            refine lv_aload_n hx hb dX1_readKeys_144 rfl (lv_at hl 5 rfl) ?_
            refine o_get C h (RC := RX14) (T := TX14) (N := 7) (List.mem_of_getElem? (i := 0) rfl) rfl in_X14 4 (by decide) q1031 rfl (v := .int (nI k2)) rfl dX1_readKeys_145 ?_
            refine lv_iconst (v := nI 5) hx hb dX1_readKeys_148 (by decide) ?_
            refine n_icmp_eq (tgt := 161) hx hb (by omega) (by omega) dX1_readKeys_149 (by decide) (fun c149 => by exfalso; omega) (fun c149 => ?_)
            refine lv_aload_n hx hb dX1_readKeys_152 rfl (lv_at hl 5 rfl) ?_
            refine o_get C h (RC := RX14) (T := TX14) (N := 7) (List.mem_of_getElem? (i := 0) rfl) rfl in_X14 4 (by decide) q1031 rfl (v := .int (nI k2)) rfl dX1_readKeys_153 ?_
            refine lv_bipush (v := nI 7) hx hb dX1_readKeys_156 (by decide) ?_
            refine n_icmp_ne (tgt := 165) hx hb (by omega) (by omega) dX1_readKeys_158 (by decide) (fun c158 => ?_) (fun c158 => by exfalso; omega)
            refine lv_iconst (v := nI 0) hx hb dX1_readKeys_165 (by decide) ?_
            refine n_top (y := bZ false) rfl ?_
            have h : Wd D B s ([(ho, .inr (2, [.ref st, .ref fi, .ref bl, .long u.1, .ref wo])), (st, war dA 5 u.2.1), (wo, war dA 80 u.2.2.1), (bl, bar dA 64 u.2.2.2.2), (dg, bar dA 32 gd), (o1, .inr (11, [.ref rb, .int (nI lw.length), .int (nI n2), .int (nI nx), .int (nI k2), .ref q0, .ref pk])), (pk, .inr (1, [.ref b2, .int (nI bd.length)])), (b2, bar dA (gro cap bd.length) g2)] ++ (ringW dA e0 (ra, lm, lx) Rg ++ (O ++ (F ++ (E ++ E1))))) H locs := h.perm [1, 2, 3, 4, 5, 0, 6, 7] rfl rfl
            have h : Wd D B s (h4C dA ho st fi bl wo u ++ ([(dg, bar dA 32 gd)] ++ ([(o1, .inr (11, [.ref rb, .int (nI lw.length), .int (nI n2), .int (nI nx), .int (nI k2), .ref q0, .ref pk])), (pk, .inr (1, [.ref b2, .int (nI bd.length)])), (b2, bar dA (gro cap bd.length) g2)] ++ (ringW dA e0 (ra, lm, lx) Rg ++ (O ++ (F ++ (E ++ E1))))))) H locs := h
            refine call_VR (As := [.ref q0, .int (bZ false)]) (rest := []) (n := 2) C h (c1_numbers l D dA B Z hZ ([(o1, .inr (11, [.ref rb, .int (nI lw.length), .int (nI n2), .int (nI nx), .int (nI k2), .ref q0, .ref pk])), (pk, .inr (1, [.ref b2, .int (nI bd.length)])), (b2, bar dA (gro cap bd.length) g2)] ++ (ringW dA e0 (ra, lm, lx) Rg ++ (O ++ (F ++ (E ++ E1))))) ho st fi bl wo me bs dc ou rg h2 dg tk pl pk tx sd sz po u gd q0 bd false (List.mem_append_right _ (List.mem_append_right _ (memOE hfi))) (List.mem_append_right _ (List.mem_append_right _ (memOE hmC))) hgb hgd (List.mem_append_right _ (List.mem_append_right _ (List.mem_append_right _ hq2))) hbd hbl) (lw_V q1089 q1091 qs11 q129 q1092) (by decide +kernel) (o_recv C h (RC := RX1) (T := TX1) (N := 14) (List.mem_append_right _ (List.mem_append_right _ (List.mem_append_right _ (List.mem_append_right _ (memOE hmC))))) rfl) (by decide) (by decide) rfl hl rfl (Nat.le_of_ble_eq_true rfl) dX1_readKeys_166 (by omega) (fun u8 H locs hu8 h => ?_)
            obtain ⟨uh, ug, nq, E2⟩ := u8
            obtain ⟨hgd2, hgb2, hno2, hyes2⟩ := hu8
            dsimp only at hgd2 hgb2 hno2 hyes2 h
            have h : Wd D B s ([(ho, .inr (2, [.ref st, .ref fi, .ref bl, .long uh.1, .ref wo])), (st, war dA 5 uh.2.1), (wo, war dA 80 uh.2.2.1), (bl, bar dA 64 uh.2.2.2.2)] ++ ([(dg, bar dA 32 ug)] ++ (([(o1, .inr (11, [.ref rb, .int (nI lw.length), .int (nI n2), .int (nI nx), .int (nI k2), .ref q0, .ref pk])), (pk, .inr (1, [.ref b2, .int (nI bd.length)])), (b2, bar dA (gro cap bd.length) g2)] ++ (ringW dA e0 (ra, lm, lx) Rg ++ (O ++ (F ++ (E ++ E1))))) ++ E2))) H locs := h
            have h : Wd D B s ([(o1, .inr (11, [.ref rb, .int (nI lw.length), .int (nI n2), .int (nI nx), .int (nI k2), .ref q0, .ref pk])), (ho, .inr (2, [.ref st, .ref fi, .ref bl, .long uh.1, .ref wo])), (st, war dA 5 uh.2.1), (wo, war dA 80 uh.2.2.1), (bl, bar dA 64 uh.2.2.2.2), (dg, bar dA 32 ug), (pk, .inr (1, [.ref b2, .int (nI bd.length)])), (b2, bar dA (gro cap bd.length) g2)] ++ (ringW dA e0 (ra, lm, lx) Rg ++ (O ++ (F ++ ((E ++ E1) ++ E2))))) H locs := h.permL (perm_add (fun g f p0 p1 p2 => by (try simp only [p0, p1, p2]) <;> omega))
            have hRg2 : RgS dA cx (F ++ ((E ++ E1) ++ E2)) (ra, lm, lx) Rg := hRg1.sub (fun z hz => by rw [← List.append_assoc]; exact List.mem_append_left _ hz)
            by_cases hok : keyOk bd false = true
            · obtain ⟨qn, e7, hN0⟩ := hyes2 hok
              rw [e7]
              show W p l e R s m args below meth c H locs (cc + 0 + (rC cap bd.length + 1) + 0 + 10) (cs + 0 + (rS cap bd.length + bd.length) + 0 + (7 * bd.length + 29)) Q (F0 m 169 ls [.ref qn])
              obtain ⟨nn, hnn⟩ : ∃ z : NBr, z = (qn, bd.take (kSize bd), secO bd false) := ⟨_, rfl⟩
              rw [← hnn] at hN0
              have hqn : qn = nn.1 := by rw [hnn]
              rw [hqn]
              have hnc : nn.2 = numN bd false := by rw [hnn]; rfl
              have hN : NumIn dA (F ++ ((E ++ E1) ++ E2)) nn := hN0.rt.rt
              have hbig : 63 ≤ bd.length := by
                have z := keyOk_nums hok hbd (by omega)
                have l1 : (kU1 bd).2.1 ≤ bd.length := (oneS_le (Nat.zero_le _)).1
                have l2 : (kU2 bd).2.1 ≤ bd.length := (someS_ok hbd 4 0 0 _ l1 (by decide)).2.1
                have l3 : (kU3 bd).2.1 ≤ bd.length := (oneS_le l2).1
                have z2 : (kN bd).length ≤ bd.length := (numS_ok hbd _ l3).2.2.1
                omega
              refine lv_goto (tgt := 173) hx hb dX1_readKeys_169 (by decide) ?_
              refine lv_astore (lv' := [(9, .ref nn.1), (8, .int (nI 0)), (7, .int (nI 1)), (0, .ref me), (1, .ref ra), (2, .ref ro), (3, .ref o1), (4, va_rf ko), (5, va_rf lo), (6, .int (nI many))]) hx hb dX1_readKeys_173 hl (by decide) rfl (fun ls hl => ?_)
              refine lv_iload hx hb dX1_readKeys_175 (lv_at hl 2 rfl) ?_
              refine n_if_ne (tgt := 185) hx hb (by omega) dX1_readKeys_177 (by decide) (fun c177 => ?_) (fun c177 => by exfalso; omega)
              refine lv_aload hx hb dX1_readKeys_185 (lv_at hl 0 rfl) ?_
              refine lv_ifnonnull (tgt := 195) hx hb dX1_readKeys_187 (by decide) ?_
              refine lv_iload hx hb dX1_readKeys_195 (lv_at hl 2 rfl) ?_
              refine n_if_eq (tgt := 219) hx hb (by omega) dX1_readKeys_197 (by decide) (fun c197 => by exfalso; omega) (fun c197 => ?_)
              refine lv_aload_n hx hb dX1_readKeys_200 rfl (lv_at hl 4 rfl) ?_
              refine lv_aload hx hb dX1_readKeys_201 (lv_at hl 0 rfl) ?_
              refine lv_aload_n hx hb dX1_readKeys_203 rfl (lv_at hl 6 rfl) ?_
              rcases find_ix (f := kyHas (sha1 (keyMsg nn.2.1))) Rg with hf | ⟨i0, k, hi, hyes, hno, hf⟩
              · have hno : ∀ j y, j < Rg.length → Rg[j]? = some y → kyHas (sha1 (keyMsg nn.2.1)) y = false := fun j y _ hy => Bool.eq_false_iff.mpr (List.find?_eq_none.mp hf y (List.mem_of_getElem? hy))
                have hR16 := hRg2.1.2.2
                rcases (show Rg.length < 16 ∨ Rg.length = 16 by omega) with h16 | h16
                · have h : Wd D B s (ringW dA e0 (ra, lm, lx) Rg ++ (([(o1, .inr (11, [.ref rb, .int (nI lw.length), .int (nI n2), .int (nI nx), .int (nI k2), .ref q0, .ref pk])), (ho, .inr (2, [.ref st, .ref fi, .ref bl, .long uh.1, .ref wo])), (st, war dA 5 uh.2.1), (wo, war dA 80 uh.2.2.1), (bl, bar dA 64 uh.2.2.2.2), (dg, bar dA 32 ug), (pk, .inr (1, [.ref b2, .int (nI bd.length)])), (b2, bar dA (gro cap bd.length) g2)] ++ O) ++ (F ++ ((E ++ E1) ++ E2)))) H locs := h.permL (perm_add (fun g f p0 p1 p2 => by (try simp only [p0, p1, p2]) <;> omega))
                  refine call_S (As := [.ref ra, .ref nn.1, .ref o1]) (rest := []) (n := 3) C h (cR_comesN l D dA B Z hZ ([(o1, .inr (11, [.ref rb, .int (nI lw.length), .int (nI n2), .int (nI nx), .int (nI k2), .ref q0, .ref pk])), (ho, .inr (2, [.ref st, .ref fi, .ref bl, .long uh.1, .ref wo])), (st, war dA 5 uh.2.1), (wo, war dA 80 uh.2.2.1), (bl, bar dA 64 uh.2.2.2.2), (dg, bar dA 32 ug), (pk, .inr (1, [.ref b2, .int (nI bd.length)])), (b2, bar dA (gro cap bd.length) g2)] ++ O) (F ++ ((E ++ E1) ++ E2)) e0 mi (ra, lm, lx) Rg nn o1 rb lw.length n2 nx k2 pk (some q0) hzs hza hRg2.1 hRg2.num hN hno h16) (lw_S q1253 q1254 q129 q1255) (by decide +kernel) (by decide) (by decide) rfl hl rfl (Nat.le_of_ble_eq_true rfl) dX1_readKeys_204 (by omega) (fun u8 H locs hu8 h => ?_)
                  obtain ⟨k9, ⟨ra9, lm9, lx9⟩, E3⟩ := u8
                  obtain ⟨hk9, hra, hL9⟩ := hu8
                  dsimp only at hk9 hra hL9 h
                  rw [hra] at h hL9
                  obtain ⟨R9, hR9⟩ : ∃ z, z = Rg ++ [k9] := ⟨_, rfl⟩
                  rw [← hR9] at h hL9
                  have h : Wd D B s ([(o1, .inr (11, [.ref rb, .int (nI lw.length), .int (nI n2), .int (nI nx), .int (nI k2), .ref q0, .ref pk])), (ho, .inr (2, [.ref st, .ref fi, .ref bl, .long uh.1, .ref wo])), (st, war dA 5 uh.2.1), (wo, war dA 80 uh.2.2.1), (bl, bar dA 64 uh.2.2.2.2), (dg, bar dA 32 ug), (pk, .inr (1, [.ref b2, .int (nI bd.length)])), (b2, bar dA (gro cap bd.length) g2)] ++ (ringW dA e0 (ra, lm9, lx9) R9 ++ (O ++ (F ++ (((E ++ E1) ++ E2) ++ E3))))) H locs := h.permL (perm_add (fun g f p0 p1 p2 => by (try simp only [p0, p1, p2]) <;> omega))
                  have hRg3 : RgS dA cx (F ++ (((E ++ E1) ++ E2) ++ E3)) (ra, lm9, lx9) R9 := by
                    have z : RgS dA cx (F ++ (((E ++ E1) ++ E2) ++ E3)) (ra, lm, lx) Rg := hRg2.sub (fun z hz => by rw [← List.append_assoc]; exact List.mem_append_left _ hz)
                    obtain ⟨ka, a1, a2, a3, e⟩ := hk9
                    rw [hR9] at hL9 ⊢
                    refine z.snoc hL9 ?_
                    rw [e]
                    exact KyS.new (hN.sub (fun b q hq => by rw [← List.append_assoc]; exact List.mem_append_left _ hq) (fun a fs hq => by rw [← List.append_assoc]; exact List.mem_append_left _ hq)) ka a1 a2 a3
                  have hcur3 : CurA R9 (some (Rg.length, 0, 0)) (some k9.1) (some k9.1) := ⟨k9, by rw [hR9]; exact List.getElem?_concat_length, rfl, Or.inl ⟨rfl, rfl⟩⟩
                  have hp3 : pkN (Rg.map kcK, cu, many) k2 bd = some (R9.map kcK, some (Rg.length, 0, 0), many + 1) := by rw [pkN_key (by omega), show decide (k2 = 5) = false by rw [hk]; rfl, if_pos hok]; show keyN2 _ (cmN (Rg.map kcK) (numN bd false)) = _; rw [← hnc, cm_nw hno h16 hk9, hR9]; rfl
                  show W p l e R s m args below meth c H locs (cc + 0 + (rC cap bd.length + 1) + 0 + 10 + 5) (cs + 0 + (rS cap bd.length + bd.length) + 0 + (7 * bd.length + 29) + (2 * Rg.length + 24)) Q (F0 m 207 ls [.ref k9.1])
                  refine lv_astore (lv' := [(4, .ref k9.1), (9, .ref nn.1), (8, .int (nI 0)), (7, .int (nI 1)), (0, .ref me), (1, .ref ra), (2, .ref ro), (3, .ref o1), (5, va_rf lo), (6, .int (nI many))]) hx hb dX1_readKeys_207 hl (by decide) rfl (fun ls hl => ?_)
                  refine lv_aload hx hb dX1_readKeys_209 (lv_at hl 0 rfl) ?_
                  refine lv_astore (lv' := [(5, .ref k9.1), (4, .ref k9.1), (9, .ref nn.1), (8, .int (nI 0)), (7, .int (nI 1)), (0, .ref me), (1, .ref ra), (2, .ref ro), (3, .ref o1), (6, .int (nI many))]) hx hb dX1_readKeys_211 hl (by decide) rfl (fun ls hl => ?_)
                  refine lv_iinc (v := nI (many + 1)) (lv' := [(6, .int (nI (many + 1))), (5, .ref k9.1), (4, .ref k9.1), (9, .ref nn.1), (8, .int (nI 0)), (7, .int (nI 1)), (0, .ref me), (1, .ref ra), (2, .ref ro), (3, .ref o1)]) hx hb dX1_readKeys_213 hl (k := 9) rfl (nI_add many 1) (by decide) rfl (fun ls hl => ?_)
                  refine lv_goto (tgt := 310) hx hb dX1_readKeys_216 (by decide) ?_
                  refine lv_goto (tgt := 22) hx hb dX1_readKeys_310 (by decide) ?_
                  exact ih n2 nx k2 (some q0) b2 (gro cap bd.length) g2 bd uh ug lm9 lx9 R9 cx (some (Rg.length, 0, 0)) (some k9.1) (some k9.1) (many + 1) (fu - 1) (((E ++ E1) ++ E2) ++ E3) _ _ hadv.1 hsr2 hgc.1 hgc.2 hgb2 hgd2 hRg3 hcx hcur3 (hkn.trans (keysN_go hnl hfu0 hpk9 hp3)) (by omega) (by omega) (by (try dsimp only) <;> omega) (by (try dsimp only) <;> omega) (by omega) _ _ h _ (lv_sub hl [6, 7, 8, 9, 2, 1, 0] rfl)
                · have h : Wd D B s (ringW dA e0 (ra, lm, lx) Rg ++ (([(o1, .inr (11, [.ref rb, .int (nI lw.length), .int (nI n2), .int (nI nx), .int (nI k2), .ref q0, .ref pk])), (ho, .inr (2, [.ref st, .ref fi, .ref bl, .long uh.1, .ref wo])), (st, war dA 5 uh.2.1), (wo, war dA 80 uh.2.2.1), (bl, bar dA 64 uh.2.2.2.2), (dg, bar dA 32 ug), (pk, .inr (1, [.ref b2, .int (nI bd.length)])), (b2, bar dA (gro cap bd.length) g2)] ++ O) ++ (F ++ ((E ++ E1) ++ E2)))) H locs := h.permL (perm_add (fun g f p0 p1 p2 => by (try simp only [p0, p1, p2]) <;> omega))
                  refine call_SX (As := [.ref ra, .ref nn.1, .ref o1]) (rest := []) (n := 3) C h (cR_comesX l D dA B Z hZ ([(o1, .inr (11, [.ref rb, .int (nI lw.length), .int (nI n2), .int (nI nx), .int (nI k2), .ref q0, .ref pk])), (ho, .inr (2, [.ref st, .ref fi, .ref bl, .long uh.1, .ref wo])), (st, war dA 5 uh.2.1), (wo, war dA 80 uh.2.2.1), (bl, bar dA 64 uh.2.2.2.2), (dg, bar dA 32 ug), (pk, .inr (1, [.ref b2, .int (nI bd.length)])), (b2, bar dA (gro cap bd.length) g2)] ++ O) (F ++ ((E ++ E1) ++ E2)) e0 mi (ra, lm, lx) Rg nn o1 rb lw.length n2 nx k2 pk (some q0) hlt hzx hRg2.1 hRg2.num hN hno (List.mem_append_left _ (List.mem_append_left _ (List.mem_of_getElem? (i := 0) rfl))) h16) (lw_S q1253 q1254 q129 q1255) (by decide +kernel) (by decide) (by decide) rfl hl rfl (Nat.le_of_ble_eq_true rfl) dX1_readKeys_204 (by omega) (fun ux ce9 H locs hux h hce9 hcv9 hcl9 => ?_) (fun _ H locs hu h => ?_)
                  · obtain ⟨q8, E8⟩ := ux
                    dsimp only at hux h
                    have hkn9 := hkn.trans (keysN_bad hnl hfu0 hpk9 (by rw [pkN_key (by omega), show decide (k2 = 5) = false by rw [hk]; rfl, if_pos hok]; show keyN2 _ (cmN (Rg.map kcK) (numN bd false)) = _; rw [← hnc, cm_full hno h16]; rfl))
                    have h : Wd D B s ([(ho, .inr (2, [.ref st, .ref fi, .ref bl, .long uh.1, .ref wo])), (st, war dA 5 uh.2.1), (wo, war dA 80 uh.2.2.1), (bl, bar dA 64 uh.2.2.2.2)] ++ ([(dg, bar dA 32 ug), (pk, .inr (1, [.ref b2, .int (nI bd.length)])), (b2, bar dA (gro cap bd.length) g2)] ++ ([(o1, .inr (11, [.ref rb, .int (nI lw.length), .int (nI n2), .int (nI nx), .int (nI k2), .ref q0, .ref pk]))] ++ (ringW dA e0 (ra, lm, lx) Rg ++ (O ++ (F ++ (((E ++ E1) ++ E2) ++ E8))))))) H locs := h.permL (perm_add (fun g f p0 p1 p2 => by (try simp only [p0, p1, p2]) <;> omega))
                    have h : Wd D B s (h4C dA ho st fi bl wo uh ++ ([(dg, bar dA 32 ug), (pk, .inr (1, [.ref b2, .int (nI bd.length)])), (b2, bar dA (gro cap bd.length) g2)] ++ ([(o1, .inr (11, [.ref rb, .int (nI lw.length), .int (nI n2), .int (nI nx), .int (nI k2), .ref q0, .ref pk]))] ++ (ringW dA e0 (ra, lm, lx) Rg ++ (O ++ (F ++ (((E ++ E1) ++ E2) ++ E8))))))) H locs := h
                    have hft : FaultIn ([(o1, .inr (11, [.ref rb, .int (nI lw.length), .int (nI n2), .int (nI nx), .int (nI k2), .ref q0, .ref pk]))] ++ (ringW dA e0 (ra, lm, lx) Rg ++ (O ++ (F ++ (((E ++ E1) ++ E2) ++ E8))))) q8 (tellN kr lw.length) := by
                      unfold tellN
                      rw [hkn9, if_neg (m1_ne (by omega))]
                      exact hux.up (fun z hz => List.mem_append_right _ (List.mem_append_right _ (List.mem_append_right _ (List.mem_append_right _ (List.mem_append_right _ hz)))))
                    have hk0 : kr.1 = 0 → kr.2.2.2 = 0 := fun q9 => by rw [hkn9] at q9; exact absurd q9 (m1_ne (by omega))
                    subst hQ
                    exact thr_out C hex hlocks h (q8, uh, ug, (b2, gro cap bd.length, g2, bd), [(o1, .inr (11, [.ref rb, .int (nI lw.length), .int (nI n2), .int (nI nx), .int (nI k2), .ref q0, .ref pk]))] ++ (ringW dA e0 (ra, lm, lx) Rg ++ (O ++ (F ++ (((E ++ E1) ++ E2) ++ E8))))) rfl rfl (⟨⟨hgd2, hgb2, hsr2, hgc.1, hgc.2⟩, hft, fun x9 hx9 => List.mem_append_right _ (List.mem_append_right _ (memOE hx9)), hk0⟩) rfl hce9 hcv9 hcl9 (by omega) (by omega)
                  exact hu.elim
              · have h : Wd D B s (ringW dA e0 (ra, lm, lx) Rg ++ (([(o1, .inr (11, [.ref rb, .int (nI lw.length), .int (nI n2), .int (nI nx), .int (nI k2), .ref q0, .ref pk])), (ho, .inr (2, [.ref st, .ref fi, .ref bl, .long uh.1, .ref wo])), (st, war dA 5 uh.2.1), (wo, war dA 80 uh.2.2.1), (bl, bar dA 64 uh.2.2.2.2), (dg, bar dA 32 ug), (pk, .inr (1, [.ref b2, .int (nI bd.length)])), (b2, bar dA (gro cap bd.length) g2)] ++ O) ++ (F ++ ((E ++ E1) ++ E2)))) H locs := h.permL (perm_add (fun g f p0 p1 p2 => by (try simp only [p0, p1, p2]) <;> omega))
                refine call_S (As := [.ref ra, .ref nn.1, .ref o1]) (rest := []) (n := 3) C h (cR_comesH l D dA B Z hZ ([(o1, .inr (11, [.ref rb, .int (nI lw.length), .int (nI n2), .int (nI nx), .int (nI k2), .ref q0, .ref pk])), (ho, .inr (2, [.ref st, .ref fi, .ref bl, .long uh.1, .ref wo])), (st, war dA 5 uh.2.1), (wo, war dA 80 uh.2.2.1), (bl, bar dA 64 uh.2.2.2.2), (dg, bar dA 32 ug), (pk, .inr (1, [.ref b2, .int (nI bd.length)])), (b2, bar dA (gro cap bd.length) g2)] ++ O) (F ++ ((E ++ E1) ++ E2)) e0 mi (ra, lm, lx) Rg nn o1 i0 k hRg2.1 hRg2.num hN hi hno hyes) (lw_S q1253 q1254 q129 q1255) (by decide +kernel) (by decide) (by decide) rfl hl rfl (Nat.le_of_ble_eq_true rfl) dX1_readKeys_204 (by omega) (fun u8 H locs hu8 h => ?_)
                obtain ⟨n9, E3⟩ := u8
                obtain ⟨e91, hn9⟩ := hu8
                dsimp only at e91 hn9 h
                obtain ⟨R9, hR9⟩ : ∃ z, z = Rg.set i0 (k.1, n9, k.2.2) := ⟨_, rfl⟩
                rw [← hR9] at h
                have h : Wd D B s ([(o1, .inr (11, [.ref rb, .int (nI lw.length), .int (nI n2), .int (nI nx), .int (nI k2), .ref q0, .ref pk])), (ho, .inr (2, [.ref st, .ref fi, .ref bl, .long uh.1, .ref wo])), (st, war dA 5 uh.2.1), (wo, war dA 80 uh.2.2.1), (bl, bar dA 64 uh.2.2.2.2), (dg, bar dA 32 ug), (pk, .inr (1, [.ref b2, .int (nI bd.length)])), (b2, bar dA (gro cap bd.length) g2)] ++ (ringW dA e0 (ra, lm, lx) R9 ++ (O ++ (F ++ (((E ++ E1) ++ E2) ++ E3))))) H locs := h.permL (perm_add (fun g f p0 p1 p2 => by (try simp only [p0, p1, p2]) <;> omega))
                have hn8 : NumIn dA (F ++ (((E ++ E1) ++ E2) ++ E3)) n9 := by have z := hn9; rw [List.append_assoc] at z; exact z
                have hRg3 : RgS dA cx (F ++ (((E ++ E1) ++ E2) ++ E3)) (ra, lm, lx) R9 := by
                  have z : RgS dA cx (F ++ (((E ++ E1) ++ E2) ++ E3)) (ra, lm, lx) Rg := hRg2.sub (fun z hz => by rw [← List.append_assoc]; exact List.mem_append_left _ hz)
                  rw [hR9]
                  exact z.set hi rfl ((z.2 k (List.mem_of_getElem? hi)).num hn8 (by rw [e91]))
                have hcur3 : CurA R9 (some (i0, 0, 0)) (some k.1) (some k.1) := ⟨(k.1, n9, k.2.2), by rw [hR9]; exact List.getElem?_set_self (List.getElem?_eq_some_iff.mp hi).1, rfl, Or.inl ⟨rfl, rfl⟩⟩
                have hp3 : pkN (Rg.map kcK, cu, many) k2 bd = some (R9.map kcK, some (i0, 0, 0), many + 1) := by rw [pkN_key (by omega), show decide (k2 = 5) = false by rw [hk]; rfl, if_pos hok]; show keyN2 _ (cmN (Rg.map kcK) (numN bd false)) = _; rw [← hnc, cm_hit hi hno hyes e91, hR9]; rfl
                refine lv_astore (lv' := [(4, .ref k.1), (9, .ref nn.1), (8, .int (nI 0)), (7, .int (nI 1)), (0, .ref me), (1, .ref ra), (2, .ref ro), (3, .ref o1), (5, va_rf lo), (6, .int (nI many))]) hx hb dX1_readKeys_207 hl (by decide) rfl (fun ls hl => ?_)
                refine lv_aload hx hb dX1_readKeys_209 (lv_at hl 0 rfl) ?_
                refine lv_astore (lv' := [(5, .ref k.1), (4, .ref k.1), (9, .ref nn.1), (8, .int (nI 0)), (7, .int (nI 1)), (0, .ref me), (1, .ref ra), (2, .ref ro), (3, .ref o1), (6, .int (nI many))]) hx hb dX1_readKeys_211 hl (by decide) rfl (fun ls hl => ?_)
                refine lv_iinc (v := nI (many + 1)) (lv' := [(6, .int (nI (many + 1))), (5, .ref k.1), (4, .ref k.1), (9, .ref nn.1), (8, .int (nI 0)), (7, .int (nI 1)), (0, .ref me), (1, .ref ra), (2, .ref ro), (3, .ref o1)]) hx hb dX1_readKeys_213 hl (k := 9) rfl (nI_add many 1) (by decide) rfl (fun ls hl => ?_)
                refine lv_goto (tgt := 310) hx hb dX1_readKeys_216 (by decide) ?_
                refine lv_goto (tgt := 22) hx hb dX1_readKeys_310 (by decide) ?_
                exact ih n2 nx k2 (some q0) b2 (gro cap bd.length) g2 bd uh ug lm lx R9 cx (some (i0, 0, 0)) (some k.1) (some k.1) (many + 1) (fu - 1) (((E ++ E1) ++ E2) ++ E3) _ _ hadv.1 hsr2 hgc.1 hgc.2 hgb2 hgd2 hRg3 hcx hcur3 (hkn.trans (keysN_go hnl hfu0 hpk9 hp3)) (by omega) (by omega) (by (try dsimp only) <;> omega) (by (try dsimp only) <;> omega) (by omega) _ _ h _ (lv_sub hl [6, 7, 8, 9, 2, 1, 0] rfl)
            · have hok : keyOk bd false = false := by cases q9 : keyOk bd false with | true => exact absurd q9 hok | false => rfl
              rw [hno2 hok]
              show W p l e R s m args below meth c H locs (cc + 0 + (rC cap bd.length + 1) + 0 + 10) (cs + 0 + (rS cap bd.length + bd.length) + 0 + (7 * bd.length + 29)) Q (F0 m 169 ls [.null])
              refine lv_goto (tgt := 173) hx hb dX1_readKeys_169 (by decide) ?_
              refine lv_astoreN (lv' := [(9, .null), (8, .int (nI 0)), (7, .int (nI 1)), (0, .ref me), (1, .ref ra), (2, .ref ro), (3, .ref o1), (4, va_rf ko), (5, va_rf lo), (6, .int (nI many))]) hx hb dX1_readKeys_173 hl (by decide) rfl (fun ls hl => ?_)
              refine lv_iload hx hb dX1_readKeys_175 (lv_at hl 2 rfl) ?_
              refine n_if_ne (tgt := 185) hx hb (by omega) dX1_readKeys_177 (by decide) (fun c177 => ?_) (fun c177 => by exfalso; omega)
              refine lv_aloadN hx hb dX1_readKeys_185 (lv_at hl 0 rfl) ?_
              refine lv_ifnonnullN hx hb dX1_readKeys_187 ?_
              refine lv_aload_n hx hb dX1_readKeys_190 rfl (lv_at hl 6 rfl) ?_
              refine call_VR (As := []) (rest := []) (n := 0) C h (c14_fault l D dA B Z hZ _ o1 rb lw.length n2 nx k2 pk (some q0) hlt hzx (List.mem_of_getElem? (i := 0) rfl)) (lw_V q1088 q1064 q1065 q162 q1066) (by decide +kernel) (o_recv C h (RC := RX14) (T := TX14) (N := 7) (List.mem_of_getElem? (i := 0) rfl) rfl) (by decide) (by decide) rfl hl rfl (Nat.le_of_ble_eq_true rfl) dX1_readKeys_191 (by omega) (fun u8 H locs _ h => ?_)
              obtain ⟨q9, x9⟩ := u8
              have h : Wd D B s ([(q9, .inr (10, fts x9 (-1 - nI nx))), (o1, .inr (11, [.ref rb, .int (nI lw.length), .int (nI n2), .int (nI nx), .int (nI k2), .ref q0, .ref pk])), (ho, .inr (2, [.ref st, .ref fi, .ref bl, .long uh.1, .ref wo])), (st, war dA 5 uh.2.1), (wo, war dA 80 uh.2.2.1), (bl, bar dA 64 uh.2.2.2.2), (dg, bar dA 32 ug), (pk, .inr (1, [.ref b2, .int (nI bd.length)])), (b2, bar dA (gro cap bd.length) g2)] ++ (ringW dA e0 (ra, lm, lx) Rg ++ (O ++ (F ++ ((E ++ E1) ++ E2))))) H locs := h
              subst hQ
              have hkn9 := hkn.trans (keysN_bad hnl hfu0 hpk9 (by rw [pkN_key (by omega), if_neg]; rw [show decide (k2 = 5) = false by rw [hk]; rfl, hok]; decide))
              have h : Wd D B s ([(ho, .inr (2, [.ref st, .ref fi, .ref bl, .long uh.1, .ref wo])), (st, war dA 5 uh.2.1), (wo, war dA 80 uh.2.2.1), (bl, bar dA 64 uh.2.2.2.2)] ++ ([(dg, bar dA 32 ug), (pk, .inr (1, [.ref b2, .int (nI bd.length)])), (b2, bar dA (gro cap bd.length) g2)] ++ ([(q9, .inr (10, fts x9 (-1 - nI nx)))] ++ ([(o1, .inr (11, [.ref rb, .int (nI lw.length), .int (nI n2), .int (nI nx), .int (nI k2), .ref q0, .ref pk]))] ++ (ringW dA e0 (ra, lm, lx) Rg ++ (O ++ (F ++ ((E ++ E1) ++ E2)))))))) H locs := h.permL (perm_add (fun g f p0 p1 p2 => by (try simp only [p0, p1, p2]) <;> omega))
              have h : Wd D B s (h4C dA ho st fi bl wo uh ++ ([(dg, bar dA 32 ug), (pk, .inr (1, [.ref b2, .int (nI bd.length)])), (b2, bar dA (gro cap bd.length) g2)] ++ ([(q9, .inr (10, fts x9 (-1 - nI nx)))] ++ ([(o1, .inr (11, [.ref rb, .int (nI lw.length), .int (nI n2), .int (nI nx), .int (nI k2), .ref q0, .ref pk]))] ++ (ringW dA e0 (ra, lm, lx) Rg ++ (O ++ (F ++ ((E ++ E1) ++ E2)))))))) H locs := h
              have hft : FaultIn ([(q9, .inr (10, fts x9 (-1 - nI nx)))] ++ ([(o1, .inr (11, [.ref rb, .int (nI lw.length), .int (nI n2), .int (nI nx), .int (nI k2), .ref q0, .ref pk]))] ++ (ringW dA e0 (ra, lm, lx) Rg ++ (O ++ (F ++ ((E ++ E1) ++ E2)))))) q9 (tellN kr lw.length) := by
                unfold tellN
                rw [hkn9, if_neg (m1_ne (by omega))]
                exact ⟨x9, List.mem_append_left _ List.mem_cons_self⟩
              have hk0 : kr.1 = 0 → kr.2.2.2 = 0 := fun q9 => by rw [hkn9] at q9; exact absurd q9 (m1_ne (by omega))
              exact x_athrow C hex hlocks h (List.mem_append_right _ (List.mem_append_right _ (List.mem_append_left _ List.mem_cons_self))) rfl (q9, uh, ug, (b2, gro cap bd.length, g2, bd), [(q9, .inr (10, fts x9 (-1 - nI nx)))] ++ ([(o1, .inr (11, [.ref rb, .int (nI lw.length), .int (nI n2), .int (nI nx), .int (nI k2), .ref q0, .ref pk]))] ++ (ringW dA e0 (ra, lm, lx) Rg ++ (O ++ (F ++ ((E ++ E1) ++ E2)))))) rfl rfl (⟨⟨hgd2, hgb2, hsr2, hgc.1, hgc.2⟩, hft, fun x9 hx9 => List.mem_append_right _ (List.mem_append_right _ (List.mem_append_right _ (memOE hx9))), hk0⟩) rfl (by omega) (by omega) dX1_readKeys_194
          · have hkp : ¬ (k2 = 10 ∨ k2 = 12 ∨ k2 = 17 ∨ 40 ≤ k2) := by omega
            rw [if_neg (show ¬ k2 = 11 by omega)] at hbo2
            obtain ⟨q0, e8, hq8, hfr8⟩ := hbo2
            have hq1 := mem_new hp1 hq8 hfr8
            rw [e8] at h
            have hq2 : (q0, bal dA bd) ∈ F ++ (E ++ E1) := List.mem_append_right _ (List.mem_append_right _ hq1)
            have h : Wd D B s ([(o1, .inr (11, [.ref rb, .int (nI lw.length), .int (nI n2), .int (nI nx), .int (nI k2), .ref q0, .ref pk])), (ho, .inr (2, [.ref st, .ref fi, .ref bl, .long u.1, .ref wo])), (st, war dA 5 u.2.1), (wo, war dA 80 u.2.2.1), (bl, bar dA 64 u.2.2.2.2), (dg, bar dA 32 gd), (pk, .inr (1, [.ref b2, .int (nI bd.length)])), (b2, bar dA (gro cap bd.length) g2)] ++ (ringW dA e0 (ra, lm, lx) Rg ++ (O ++ (F ++ (E ++ E1))))) H locs := h
            have hk56 : ¬ (k2 = 5 ∨ k2 = 6) := by omega
            rcases cu with _ | c8
            · obtain ⟨hko, hlo⟩ := hcur
              rw [hko, hlo] at hl
              have hl : lv_has ls 11 [(0, .ref me), (1, .ref ra), (2, .ref ro), (3, .ref o1), (4, .null), (5, .null), (6, .int (nI many))] := hl
              refine lv_aload_n hx hb dX1_readKeys_33 rfl (lv_at hl 3 rfl) ?_
              refine call_VR (As := []) (rest := []) (n := 0) C h (c14_isPassed l D dA B Z hZ ([(ho, .inr (2, [.ref st, .ref fi, .ref bl, .long u.1, .ref wo])), (st, war dA 5 u.2.1), (wo, war dA 80 u.2.2.1), (bl, bar dA 64 u.2.2.2.2), (dg, bar dA 32 gd), (pk, .inr (1, [.ref b2, .int (nI bd.length)])), (b2, bar dA (gro cap bd.length) g2)] ++ (ringW dA e0 (ra, lm, lx) Rg ++ (O ++ (F ++ (E ++ E1))))) o1 rb pk lw.length n2 nx k2 (some q0) (by omega)) (lw_V q1084 q1085 q1086 q162 q1087) (by decide +kernel) (o_recv C h (RC := RX14) (T := TX14) (N := 7) (List.mem_of_getElem? (i := 0) rfl) rfl) (by decide) (by decide) rfl hl rfl (Nat.le_of_ble_eq_true rfl) dX1_readKeys_34 (by omega) (fun _ H locs _ h => ?_)
              have h : Wd D B s ([(o1, .inr (11, [.ref rb, .int (nI lw.length), .int (nI n2), .int (nI nx), .int (nI k2), .ref q0, .ref pk])), (ho, .inr (2, [.ref st, .ref fi, .ref bl, .long u.1, .ref wo])), (st, war dA 5 u.2.1), (wo, war dA 80 u.2.2.1), (bl, bar dA 64 u.2.2.2.2), (dg, bar dA 32 gd), (pk, .inr (1, [.ref b2, .int (nI bd.length)])), (b2, bar dA (gro cap bd.length) g2)] ++ (ringW dA e0 (ra, lm, lx) Rg ++ (O ++ (F ++ (E ++ E1))))) H locs := h
              have h : Wd D B s ([(o1, .inr (11, [.ref rb, .int (nI lw.length), .int (nI n2), .int (nI nx), .int (nI k2), .ref q0, .ref pk])), (ho, .inr (2, [.ref st, .ref fi, .ref bl, .long u.1, .ref wo])), (st, war dA 5 u.2.1), (wo, war dA 80 u.2.2.1), (bl, bar dA 64 u.2.2.2.2), (dg, bar dA 32 gd), (pk, .inr (1, [.ref b2, .int (nI bd.length)])), (b2, bar dA (gro cap bd.length) g2)] ++ (ringW dA e0 (ra, lm, lx) Rg ++ (O ++ (F ++ (E ++ E1))))) H locs := h.permL (perm_add (fun g f p0 p1 p2 => by (try simp only [p0, p1, p2]) <;> omega))
              refine z_if_eq (tgt := 43) hx hb dX1_readKeys_37 (by decide) (fun c37 => ?_) (fun c37 => by exfalso; exact hkp (of_decide_eq_true c37))
              refine lv_aload_n hx hb dX1_readKeys_43 rfl (lv_at hl 3 rfl) ?_
              refine o_get C h (RC := RX14) (T := TX14) (N := 7) (List.mem_of_getElem? (i := 0) rfl) rfl in_X14 4 (by decide) q1031 rfl (v := .int (nI k2)) rfl dX1_readKeys_44 ?_
              refine lv_bipush (v := nI 6) hx hb dX1_readKeys_47 (by decide) ?_
              refine n_icmp_eq (tgt := 60) hx hb (by omega) (by omega) dX1_readKeys_49 (by decide) (fun c49 => by exfalso; omega) (fun c49 => ?_)
              refine lv_aload_n hx hb dX1_readKeys_52 rfl (lv_at hl 3 rfl) ?_
              refine o_get C h (RC := RX14) (T := TX14) (N := 7) (List.mem_of_getElem? (i := 0) rfl) rfl in_X14 4 (by decide) q1031 rfl (v := .int (nI k2)) rfl dX1_readKeys_53 ?_
              refine lv_iconst (v := nI 5) hx hb dX1_readKeys_56 (by decide) ?_
              refine n_icmp_ne (tgt := 64) hx hb (by omega) (by omega) dX1_readKeys_57 (by decide) (fun c57 => ?_) (fun c57 => by exfalso; omega)
              refine lv_iconst (v := nI 0) hx hb dX1_readKeys_64 (by decide) ?_
              refine lv_istore (lv' := [(7, .int (nI 0)), (0, .ref me), (1, .ref ra), (2, .ref ro), (3, .ref o1), (4, .null), (5, .null), (6, .int (nI many))]) hx hb dX1_readKeys_65 hl (by decide) rfl (fun ls hl => ?_)
              refine lv_aload_n hx hb dX1_readKeys_67 rfl (lv_at hl 4 rfl) ?_
              refine o_get C h (RC := RX14) (T := TX14) (N := 7) (List.mem_of_getElem? (i := 0) rfl) rfl in_X14 4 (by decide) q1031 rfl (v := .int (nI k2)) rfl dX1_readKeys_68 ?_
              refine lv_bipush (v := nI 14) hx hb dX1_readKeys_71 (by decide) ?_
              refine n_icmp_eq (tgt := 85) hx hb (by omega) (by omega) dX1_readKeys_73 (by decide) (fun c73 => by exfalso; omega) (fun c73 => ?_)
              refine lv_aload_n hx hb dX1_readKeys_76 rfl (lv_at hl 4 rfl) ?_
              refine o_get C h (RC := RX14) (T := TX14) (N := 7) (List.mem_of_getElem? (i := 0) rfl) rfl in_X14 4 (by decide) q1031 rfl (v := .int (nI k2)) rfl dX1_readKeys_77 ?_
              refine lv_bipush (v := nI 7) hx hb dX1_readKeys_80 (by decide) ?_
              refine n_icmp_ne (tgt := 89) hx hb (by omega) (by omega) dX1_readKeys_82 (by decide) (fun c82 => by exfalso; omega) (fun c82 => ?_)
              refine lv_iconst (v := nI 1) hx hb dX1_readKeys_85 (by decide) ?_
              refine lv_goto (tgt := 90) hx hb dX1_readKeys_86 (by decide) ?_
              refine lv_istore (lv' := [(8, .int (nI 1)), (7, .int (nI 0)), (0, .ref me), (1, .ref ra), (2, .ref ro), (3, .ref o1), (4, .null), (5, .null), (6, .int (nI many))]) hx hb dX1_readKeys_90 hl (by decide) rfl (fun ls hl => ?_)
              refine lv_iload hx hb dX1_readKeys_92 (lv_at hl 1 rfl) ?_
              refine n_if_ne (tgt := 129) hx hb (by omega) dX1_readKeys_94 (by decide) (fun c94 => by exfalso; omega) (fun c94 => ?_)
              refine lv_aloadN hx hb dX1_readKeys_97 (lv_at hl 6 rfl) ?_
              refine lv_ifnullN (tgt := 124) hx hb dX1_readKeys_99 (by decide) ?_
              refine lv_aload_n hx hb dX1_readKeys_124 rfl (lv_at hl 5 rfl) ?_
              refine call_VR (As := []) (rest := []) (n := 0) C h (c14_fault l D dA B Z hZ _ o1 rb lw.length n2 nx k2 pk (some q0) hlt hzx (List.mem_of_getElem? (i := 0) rfl)) (lw_V q1088 q1064 q1065 q162 q1066) (by decide +kernel) (o_recv C h (RC := RX14) (T := TX14) (N := 7) (List.mem_of_getElem? (i := 0) rfl) rfl) (by decide) (by decide) rfl hl rfl (Nat.le_of_ble_eq_true rfl) dX1_readKeys_125 (by omega) (fun u8 H locs _ h => ?_)
              obtain ⟨q9, x9⟩ := u8
              have h : Wd D B s ([(q9, .inr (10, fts x9 (-1 - nI nx))), (o1, .inr (11, [.ref rb, .int (nI lw.length), .int (nI n2), .int (nI nx), .int (nI k2), .ref q0, .ref pk])), (ho, .inr (2, [.ref st, .ref fi, .ref bl, .long u.1, .ref wo])), (st, war dA 5 u.2.1), (wo, war dA 80 u.2.2.1), (bl, bar dA 64 u.2.2.2.2), (dg, bar dA 32 gd), (pk, .inr (1, [.ref b2, .int (nI bd.length)])), (b2, bar dA (gro cap bd.length) g2)] ++ (ringW dA e0 (ra, lm, lx) Rg ++ (O ++ (F ++ (E ++ E1))))) H locs := h
              subst hQ
              have hkn9 := hkn.trans (keysN_bad hnl hfu0 hpk9 (pkN_no hkp hk56 rfl))
              have h : Wd D B s ([(ho, .inr (2, [.ref st, .ref fi, .ref bl, .long u.1, .ref wo])), (st, war dA 5 u.2.1), (wo, war dA 80 u.2.2.1), (bl, bar dA 64 u.2.2.2.2)] ++ ([(dg, bar dA 32 gd), (pk, .inr (1, [.ref b2, .int (nI bd.length)])), (b2, bar dA (gro cap bd.length) g2)] ++ ([(q9, .inr (10, fts x9 (-1 - nI nx)))] ++ ([(o1, .inr (11, [.ref rb, .int (nI lw.length), .int (nI n2), .int (nI nx), .int (nI k2), .ref q0, .ref pk]))] ++ (ringW dA e0 (ra, lm, lx) Rg ++ (O ++ (F ++ (E ++ E1)))))))) H locs := h.permL (perm_add (fun g f p0 p1 p2 => by (try simp only [p0, p1, p2]) <;> omega))
              have h : Wd D B s (h4C dA ho st fi bl wo u ++ ([(dg, bar dA 32 gd), (pk, .inr (1, [.ref b2, .int (nI bd.length)])), (b2, bar dA (gro cap bd.length) g2)] ++ ([(q9, .inr (10, fts x9 (-1 - nI nx)))] ++ ([(o1, .inr (11, [.ref rb, .int (nI lw.length), .int (nI n2), .int (nI nx), .int (nI k2), .ref q0, .ref pk]))] ++ (ringW dA e0 (ra, lm, lx) Rg ++ (O ++ (F ++ (E ++ E1)))))))) H locs := h
              have hft : FaultIn ([(q9, .inr (10, fts x9 (-1 - nI nx)))] ++ ([(o1, .inr (11, [.ref rb, .int (nI lw.length), .int (nI n2), .int (nI nx), .int (nI k2), .ref q0, .ref pk]))] ++ (ringW dA e0 (ra, lm, lx) Rg ++ (O ++ (F ++ (E ++ E1)))))) q9 (tellN kr lw.length) := by
                unfold tellN
                rw [hkn9, if_neg (m1_ne (by omega))]
                exact ⟨x9, List.mem_append_left _ List.mem_cons_self⟩
              have hk0 : kr.1 = 0 → kr.2.2.2 = 0 := fun q9 => by rw [hkn9] at q9; exact absurd q9 (m1_ne (by omega))
              exact x_athrow C hex hlocks h (List.mem_append_right _ (List.mem_append_right _ (List.mem_append_left _ List.mem_cons_self))) rfl (q9, u, gd, (b2, gro cap bd.length, g2, bd), [(q9, .inr (10, fts x9 (-1 - nI nx)))] ++ ([(o1, .inr (11, [.ref rb, .int (nI lw.length), .int (nI n2), .int (nI nx), .int (nI k2), .ref q0, .ref pk]))] ++ (ringW dA e0 (ra, lm, lx) Rg ++ (O ++ (F ++ (E ++ E1)))))) rfl rfl (⟨⟨hgd, hgb, hsr2, hgc.1, hgc.2⟩, hft, fun x9 hx9 => List.mem_append_right _ (List.mem_append_right _ (List.mem_append_right _ (memOE hx9))), hk0⟩) rfl (by omega) (by omega) dX1_readKeys_128
            · obtain ⟨ci, ca, cj⟩ := c8
              obtain ⟨k, hik, hko, hlt9⟩ := hcur
              dsimp only at hik hlt9
              rw [hko] at hl
              have hl : lv_has ls 11 [(0, .ref me), (1, .ref ra), (2, .ref ro), (3, .ref o1), (4, .ref k.1), (5, va_rf lo), (6, .int (nI many))] := hl
              have hkS := hRg1.2 k (List.mem_of_getElem? hik)
              have hun := pkN_un (m := many) (bd := bd) (a := ca) (j := cj) hkp hk56 hik
              refine lv_aload_n hx hb dX1_readKeys_33 rfl (lv_at hl 3 rfl) ?_
              refine call_VR (As := []) (rest := []) (n := 0) C h (c14_isPassed l D dA B Z hZ ([(ho, .inr (2, [.ref st, .ref fi, .ref bl, .long u.1, .ref wo])), (st, war dA 5 u.2.1), (wo, war dA 80 u.2.2.1), (bl, bar dA 64 u.2.2.2.2), (dg, bar dA 32 gd), (pk, .inr (1, [.ref b2, .int (nI bd.length)])), (b2, bar dA (gro cap bd.length) g2)] ++ (ringW dA e0 (ra, lm, lx) Rg ++ (O ++ (F ++ (E ++ E1))))) o1 rb pk lw.length n2 nx k2 (some q0) (by omega)) (lw_V q1084 q1085 q1086 q162 q1087) (by decide +kernel) (o_recv C h (RC := RX14) (T := TX14) (N := 7) (List.mem_of_getElem? (i := 0) rfl) rfl) (by decide) (by decide) rfl hl rfl (Nat.le_of_ble_eq_true rfl) dX1_readKeys_34 (by omega) (fun _ H locs _ h => ?_)
              have h : Wd D B s ([(o1, .inr (11, [.ref rb, .int (nI lw.length), .int (nI n2), .int (nI nx), .int (nI k2), .ref q0, .ref pk])), (ho, .inr (2, [.ref st, .ref fi, .ref bl, .long u.1, .ref wo])), (st, war dA 5 u.2.1), (wo, war dA 80 u.2.2.1), (bl, bar dA 64 u.2.2.2.2), (dg, bar dA 32 gd), (pk, .inr (1, [.ref b2, .int (nI bd.length)])), (b2, bar dA (gro cap bd.length) g2)] ++ (ringW dA e0 (ra, lm, lx) Rg ++ (O ++ (F ++ (E ++ E1))))) H locs := h
              have h : Wd D B s ([(o1, .inr (11, [.ref rb, .int (nI lw.length), .int (nI n2), .int (nI nx), .int (nI k2), .ref q0, .ref pk])), (ho, .inr (2, [.ref st, .ref fi, .ref bl, .long u.1, .ref wo])), (st, war dA 5 u.2.1), (wo, war dA 80 u.2.2.1), (bl, bar dA 64 u.2.2.2.2), (dg, bar dA 32 gd), (pk, .inr (1, [.ref b2, .int (nI bd.length)])), (b2, bar dA (gro cap bd.length) g2)] ++ (ringW dA e0 (ra, lm, lx) Rg ++ (O ++ (F ++ (E ++ E1))))) H locs := h.permL (perm_add (fun g f p0 p1 p2 => by (try simp only [p0, p1, p2]) <;> omega))
              refine z_if_eq (tgt := 43) hx hb dX1_readKeys_37 (by decide) (fun c37 => ?_) (fun c37 => by exfalso; exact hkp (of_decide_eq_true c37))
              refine lv_aload_n hx hb dX1_readKeys_43 rfl (lv_at hl 3 rfl) ?_
              refine o_get C h (RC := RX14) (T := TX14) (N := 7) (List.mem_of_getElem? (i := 0) rfl) rfl in_X14 4 (by decide) q1031 rfl (v := .int (nI k2)) rfl dX1_readKeys_44 ?_
              refine lv_bipush (v := nI 6) hx hb dX1_readKeys_47 (by decide) ?_
              refine n_icmp_eq (tgt := 60) hx hb (by omega) (by omega) dX1_readKeys_49 (by decide) (fun c49 => by exfalso; omega) (fun c49 => ?_)
              refine lv_aload_n hx hb dX1_readKeys_52 rfl (lv_at hl 3 rfl) ?_
              refine o_get C h (RC := RX14) (T := TX14) (N := 7) (List.mem_of_getElem? (i := 0) rfl) rfl in_X14 4 (by decide) q1031 rfl (v := .int (nI k2)) rfl dX1_readKeys_53 ?_
              refine lv_iconst (v := nI 5) hx hb dX1_readKeys_56 (by decide) ?_
              refine n_icmp_ne (tgt := 64) hx hb (by omega) (by omega) dX1_readKeys_57 (by decide) (fun c57 => ?_) (fun c57 => by exfalso; omega)
              refine lv_iconst (v := nI 0) hx hb dX1_readKeys_64 (by decide) ?_
              refine lv_istore (lv' := [(7, .int (nI 0)), (0, .ref me), (1, .ref ra), (2, .ref ro), (3, .ref o1), (4, .ref k.1), (5, va_rf lo), (6, .int (nI many))]) hx hb dX1_readKeys_65 hl (by decide) rfl (fun ls hl => ?_)
              refine lv_aload_n hx hb dX1_readKeys_67 rfl (lv_at hl 4 rfl) ?_
              refine o_get C h (RC := RX14) (T := TX14) (N := 7) (List.mem_of_getElem? (i := 0) rfl) rfl in_X14 4 (by decide) q1031 rfl (v := .int (nI k2)) rfl dX1_readKeys_68 ?_
              refine lv_bipush (v := nI 14) hx hb dX1_readKeys_71 (by decide) ?_
              refine n_icmp_eq (tgt := 85) hx hb (by omega) (by omega) dX1_readKeys_73 (by decide) (fun c73 => by exfalso; omega) (fun c73 => ?_)
              refine lv_aload_n hx hb dX1_readKeys_76 rfl (lv_at hl 4 rfl) ?_
              refine o_get C h (RC := RX14) (T := TX14) (N := 7) (List.mem_of_getElem? (i := 0) rfl) rfl in_X14 4 (by decide) q1031 rfl (v := .int (nI k2)) rfl dX1_readKeys_77 ?_
              refine lv_bipush (v := nI 7) hx hb dX1_readKeys_80 (by decide) ?_
              refine n_icmp_ne (tgt := 89) hx hb (by omega) (by omega) dX1_readKeys_82 (by decide) (fun c82 => by exfalso; omega) (fun c82 => ?_)
              refine lv_iconst (v := nI 1) hx hb dX1_readKeys_85 (by decide) ?_
              refine lv_goto (tgt := 90) hx hb dX1_readKeys_86 (by decide) ?_
              refine lv_istore (lv' := [(8, .int (nI 1)), (7, .int (nI 0)), (0, .ref me), (1, .ref ra), (2, .ref ro), (3, .ref o1), (4, .ref k.1), (5, va_rf lo), (6, .int (nI many))]) hx hb dX1_readKeys_90 hl (by decide) rfl (fun ls hl => ?_)
              refine lv_iload hx hb dX1_readKeys_92 (lv_at hl 1 rfl) ?_
              refine n_if_ne (tgt := 129) hx hb (by omega) dX1_readKeys_94 (by decide) (fun c94 => by exfalso; omega) (fun c94 => ?_)
              refine lv_aload hx hb dX1_readKeys_97 (lv_at hl 6 rfl) ?_
              refine lv_ifnull hx hb dX1_readKeys_99 ?_
              refine lv_iload hx hb dX1_readKeys_102 (lv_at hl 0 rfl) ?_
              refine n_if_ne (tgt := 129) hx hb (by omega) dX1_readKeys_104 (by decide) (fun c104 => ?_) (fun c104 => by exfalso; omega)
              refine lv_iload hx hb dX1_readKeys_129 (lv_at hl 1 rfl) ?_
              refine n_if_ne (tgt := 139) hx hb (by omega) dX1_readKeys_131 (by decide) (fun c131 => by exfalso; omega) (fun c131 => ?_)
              refine lv_iload hx hb dX1_readKeys_134 (lv_at hl 0 rfl) ?_
              refine n_if_eq (tgt := 172) hx hb (by omega) dX1_readKeys_136 (by decide) (fun c136 => by exfalso; omega) (fun c136 => ?_)
              refine lv_aload_n hx hb dX1_readKeys_139 rfl (lv_at hl 2 rfl) ?_
              refine lv_aload_n hx hb dX1_readKeys_140 rfl (lv_at hl 5 rfl) ?_
              refine o_get C h (RC := RX14) (T := TX14) (N := 7) (List.mem_of_getElem? (i := 0) rfl) rfl in_X14 5 (by decide) q1033 rfl (v := .ref q0) rfl dX1_readKeys_141 ?_
              refine lv_aload_n hx hb dX1_readKeys_144 rfl (lv_at hl 5 rfl) ?_
              refine o_get C h (RC := RX14) (T := TX14) (N := 7) (List.mem_of_getElem? (i := 0) rfl) rfl in_X14 4 (by decide) q1031 rfl (v := .int (nI k2)) rfl dX1_readKeys_145 ?_
              refine lv_iconst (v := nI 5) hx hb dX1_readKeys_148 (by decide) ?_
              refine n_icmp_eq (tgt := 161) hx hb (by omega) (by omega) dX1_readKeys_149 (by decide) (fun c149 => by exfalso; omega) (fun c149 => ?_)
              refine lv_aload_n hx hb dX1_readKeys_152 rfl (lv_at hl 5 rfl) ?_
              refine o_get C h (RC := RX14) (T := TX14) (N := 7) (List.mem_of_getElem? (i := 0) rfl) rfl in_X14 4 (by decide) q1031 rfl (v := .int (nI k2)) rfl dX1_readKeys_153 ?_
              refine lv_bipush (v := nI 7) hx hb dX1_readKeys_156 (by decide) ?_
              refine n_icmp_ne (tgt := 165) hx hb (by omega) (by omega) dX1_readKeys_158 (by decide) (fun c158 => by exfalso; omega) (fun c158 => ?_)
              refine lv_iconst (v := nI 1) hx hb dX1_readKeys_161 (by decide) ?_
              refine lv_goto (tgt := 166) hx hb dX1_readKeys_162 (by decide) ?_
              refine n_top (y := bZ true) rfl ?_
              have h : Wd D B s ([(ho, .inr (2, [.ref st, .ref fi, .ref bl, .long u.1, .ref wo])), (st, war dA 5 u.2.1), (wo, war dA 80 u.2.2.1), (bl, bar dA 64 u.2.2.2.2), (dg, bar dA 32 gd), (o1, .inr (11, [.ref rb, .int (nI lw.length), .int (nI n2), .int (nI nx), .int (nI k2), .ref q0, .ref pk])), (pk, .inr (1, [.ref b2, .int (nI bd.length)])), (b2, bar dA (gro cap bd.length) g2)] ++ (ringW dA e0 (ra, lm, lx) Rg ++ (O ++ (F ++ (E ++ E1))))) H locs := h.perm [1, 2, 3, 4, 5, 0, 6, 7] rfl rfl
              have h : Wd D B s (h4C dA ho st fi bl wo u ++ ([(dg, bar dA 32 gd)] ++ ([(o1, .inr (11, [.ref rb, .int (nI lw.length), .int (nI n2), .int (nI nx), .int (nI k2), .ref q0, .ref pk])), (pk, .inr (1, [.ref b2, .int (nI bd.length)])), (b2, bar dA (gro cap bd.length) g2)] ++ (ringW dA e0 (ra, lm, lx) Rg ++ (O ++ (F ++ (E ++ E1))))))) H locs := h
              refine call_VR (As := [.ref q0, .int (bZ true)]) (rest := []) (n := 2) C h (c1_numbers l D dA B Z hZ ([(o1, .inr (11, [.ref rb, .int (nI lw.length), .int (nI n2), .int (nI nx), .int (nI k2), .ref q0, .ref pk])), (pk, .inr (1, [.ref b2, .int (nI bd.length)])), (b2, bar dA (gro cap bd.length) g2)] ++ (ringW dA e0 (ra, lm, lx) Rg ++ (O ++ (F ++ (E ++ E1))))) ho st fi bl wo me bs dc ou rg h2 dg tk pl pk tx sd sz po u gd q0 bd true (List.mem_append_right _ (List.mem_append_right _ (memOE hfi))) (List.mem_append_right _ (List.mem_append_right _ (memOE hmC))) hgb hgd (List.mem_append_right _ (List.mem_append_right _ (List.mem_append_right _ hq2))) hbd hbl) (lw_V q1089 q1091 qs11 q129 q1092) (by decide +kernel) (o_recv C h (RC := RX1) (T := TX1) (N := 14) (List.mem_append_right _ (List.mem_append_right _ (List.mem_append_right _ (List.mem_append_right _ (memOE hmC))))) rfl) (by decide) (by decide) rfl hl rfl (Nat.le_of_ble_eq_true rfl) dX1_readKeys_166 (by omega) (fun u8 H locs hu8 h => ?_)
              obtain ⟨uh, ug, nq, E2⟩ := u8
              obtain ⟨hgd2, hgb2, hno2, hyes2⟩ := hu8
              dsimp only at hgd2 hgb2 hno2 hyes2 h
              have h : Wd D B s ([(ho, .inr (2, [.ref st, .ref fi, .ref bl, .long uh.1, .ref wo])), (st, war dA 5 uh.2.1), (wo, war dA 80 uh.2.2.1), (bl, bar dA 64 uh.2.2.2.2)] ++ ([(dg, bar dA 32 ug)] ++ (([(o1, .inr (11, [.ref rb, .int (nI lw.length), .int (nI n2), .int (nI nx), .int (nI k2), .ref q0, .ref pk])), (pk, .inr (1, [.ref b2, .int (nI bd.length)])), (b2, bar dA (gro cap bd.length) g2)] ++ (ringW dA e0 (ra, lm, lx) Rg ++ (O ++ (F ++ (E ++ E1))))) ++ E2))) H locs := h
              have h : Wd D B s ([(o1, .inr (11, [.ref rb, .int (nI lw.length), .int (nI n2), .int (nI nx), .int (nI k2), .ref q0, .ref pk])), (ho, .inr (2, [.ref st, .ref fi, .ref bl, .long uh.1, .ref wo])), (st, war dA 5 uh.2.1), (wo, war dA 80 uh.2.2.1), (bl, bar dA 64 uh.2.2.2.2), (dg, bar dA 32 ug), (pk, .inr (1, [.ref b2, .int (nI bd.length)])), (b2, bar dA (gro cap bd.length) g2)] ++ (ringW dA e0 (ra, lm, lx) Rg ++ (O ++ (F ++ ((E ++ E1) ++ E2))))) H locs := h.permL (perm_add (fun g f p0 p1 p2 => by (try simp only [p0, p1, p2]) <;> omega))
              have hRg2 : RgS dA cx (F ++ ((E ++ E1) ++ E2)) (ra, lm, lx) Rg := hRg1.sub (fun z hz => by rw [← List.append_assoc]; exact List.mem_append_left _ hz)
              by_cases hok : keyOk bd true = true
              · obtain ⟨qn, e7, hN0⟩ := hyes2 hok
                rw [e7]
                show W p l e R s m args below meth c H locs (cc + 0 + (rC cap bd.length + 1) + 0 + 10) (cs + 0 + (rS cap bd.length + bd.length) + 0 + (7 * bd.length + 29)) Q (F0 m 169 ls [.ref qn])
                obtain ⟨nn, hnn⟩ : ∃ z : NBr, z = (qn, bd.take (kSize bd), secO bd true) := ⟨_, rfl⟩
                rw [← hnn] at hN0
                have hqn : qn = nn.1 := by rw [hnn]
                rw [hqn]
                have hnc : nn.2 = numN bd true := by rw [hnn]; rfl
                have hN : NumIn dA (F ++ ((E ++ E1) ++ E2)) nn := hN0.rt.rt
                have hbig : 63 ≤ bd.length := by
                  have z := keyOk_nums hok hbd (by omega)
                  have l1 : (kU1 bd).2.1 ≤ bd.length := (oneS_le (Nat.zero_le _)).1
                  have l2 : (kU2 bd).2.1 ≤ bd.length := (someS_ok hbd 4 0 0 _ l1 (by decide)).2.1
                  have l3 : (kU3 bd).2.1 ≤ bd.length := (oneS_le l2).1
                  have z2 : (kN bd).length ≤ bd.length := (numS_ok hbd _ l3).2.2.1
                  omega
                refine lv_goto (tgt := 173) hx hb dX1_readKeys_169 (by decide) ?_
                refine lv_astore (lv' := [(9, .ref nn.1), (8, .int (nI 1)), (7, .int (nI 0)), (0, .ref me), (1, .ref ra), (2, .ref ro), (3, .ref o1), (4, .ref k.1), (5, va_rf lo), (6, .int (nI many))]) hx hb dX1_readKeys_173 hl (by decide) rfl (fun ls hl => ?_)
                refine lv_iload hx hb dX1_readKeys_175 (lv_at hl 2 rfl) ?_
                refine n_if_ne (tgt := 185) hx hb (by omega) dX1_readKeys_177 (by decide) (fun c177 => by exfalso; omega) (fun c177 => ?_)
                refine lv_iload hx hb dX1_readKeys_180 (lv_at hl 1 rfl) ?_
                refine n_if_eq (tgt := 195) hx hb (by omega) dX1_readKeys_182 (by decide) (fun c182 => by exfalso; omega) (fun c182 => ?_)
                refine lv_aload hx hb dX1_readKeys_185 (lv_at hl 0 rfl) ?_
                refine lv_ifnonnull (tgt := 195) hx hb dX1_readKeys_187 (by decide) ?_
                refine lv_iload hx hb dX1_readKeys_195 (lv_at hl 2 rfl) ?_
                refine n_if_eq (tgt := 219) hx hb (by omega) dX1_readKeys_197 (by decide) (fun c197 => ?_) (fun c197 => by exfalso; omega)
                refine lv_iload hx hb dX1_readKeys_219 (lv_at hl 1 rfl) ?_
                refine n_if_eq (tgt := 237) hx hb (by omega) dX1_readKeys_221 (by decide) (fun c221 => by exfalso; omega) (fun c221 => ?_)
                refine lv_aload hx hb dX1_readKeys_224 (lv_at hl 7 rfl) ?_
                refine lv_aload hx hb dX1_readKeys_226 (lv_at hl 0 rfl) ?_
                refine lv_aload_n hx hb dX1_readKeys_228 rfl (lv_at hl 6 rfl) ?_
                have hkS2 := hRg2.2 k (List.mem_of_getElem? hik)
                have hA9 := hkS2.1.2.2.2.1
                have hP9 : ∀ y ∈ k.2.2.2.2.2, NumIn dA (F ++ ((E ++ E1) ++ E2)) y.2.1 := fun y hy => (hkS2.1.2.2.2.2.2 y hy).1
                rcases find_ix (f := ptHas (sha1 (keyMsg nn.2.1))) k.2.2.2.2.2 with hf | ⟨j0, y0, hj0, hyes, hno, hf⟩
                · have h88 := hA9.2.2
                  rcases (show k.2.2.2.2.2.length < 8 ∨ k.2.2.2.2.2.length = 8 by omega) with h16 | h16
                  · have h : Wd D B s (ringW dA e0 (ra, lm, lx) Rg ++ (([(o1, .inr (11, [.ref rb, .int (nI lw.length), .int (nI n2), .int (nI nx), .int (nI k2), .ref q0, .ref pk])), (ho, .inr (2, [.ref st, .ref fi, .ref bl, .long uh.1, .ref wo])), (st, war dA 5 uh.2.1), (wo, war dA 80 uh.2.2.1), (bl, bar dA 64 uh.2.2.2.2), (dg, bar dA 32 ug), (pk, .inr (1, [.ref b2, .int (nI bd.length)])), (b2, bar dA (gro cap bd.length) g2)] ++ O) ++ (F ++ ((E ++ E1) ++ E2)))) H locs := h.permL (perm_add (fun g f p0 p1 p2 => by (try simp only [p0, p1, p2]) <;> omega))
                    refine call_S (As := [.ref k.1, .ref nn.1, .ref o1]) (rest := []) (n := 3) C h (cR_partN l D dA B Z hZ ([(o1, .inr (11, [.ref rb, .int (nI lw.length), .int (nI n2), .int (nI nx), .int (nI k2), .ref q0, .ref pk])), (ho, .inr (2, [.ref st, .ref fi, .ref bl, .long uh.1, .ref wo])), (st, war dA 5 uh.2.1), (wo, war dA 80 uh.2.2.1), (bl, bar dA 64 uh.2.2.2.2), (dg, bar dA 32 ug), (pk, .inr (1, [.ref b2, .int (nI bd.length)])), (b2, bar dA (gro cap bd.length) g2)] ++ O) (F ++ ((E ++ E1) ++ E2)) e0 mi (ra, lm, lx) Rg ci k nn o1 rb lw.length n2 nx k2 pk (some q0) hzs hza hik hN hA9 hP9 hf h16) (lw_S q1271 q1272 q129 q1273) (by decide +kernel) (by decide) (by decide) rfl hl rfl (Nat.le_of_ble_eq_true rfl) dX1_readKeys_229 (by omega) (fun u8 H locs hu8 h => ?_)
                    obtain ⟨y9, ⟨xa9, xm9, xx9⟩, E3⟩ := u8
                    obtain ⟨hy9, hxa, hL9⟩ := hu8
                    dsimp only at hy9 hxa hL9 h
                    obtain ⟨k8, hk8⟩ : ∃ z, z = kP k (xa9, xm9, xx9) (k.2.2.2.2.2 ++ [y9]) := ⟨_, rfl⟩
                    rw [← hk8] at h
                    obtain ⟨R9, hR9⟩ : ∃ z, z = Rg.set ci k8 := ⟨_, rfl⟩
                    rw [← hR9] at h
                    have h : Wd D B s ([(o1, .inr (11, [.ref rb, .int (nI lw.length), .int (nI n2), .int (nI nx), .int (nI k2), .ref q0, .ref pk])), (ho, .inr (2, [.ref st, .ref fi, .ref bl, .long uh.1, .ref wo])), (st, war dA 5 uh.2.1), (wo, war dA 80 uh.2.2.1), (bl, bar dA 64 uh.2.2.2.2), (dg, bar dA 32 ug), (pk, .inr (1, [.ref b2, .int (nI bd.length)])), (b2, bar dA (gro cap bd.length) g2)] ++ (ringW dA e0 (ra, lm, lx) R9 ++ (O ++ (F ++ (((E ++ E1) ++ E2) ++ E3))))) H locs := h.permL (perm_add (fun g f p0 p1 p2 => by (try simp only [p0, p1, p2]) <;> omega))
                    have hRg3 : RgS dA cx (F ++ (((E ++ E1) ++ E2) ++ E3)) (ra, lm, lx) R9 := by
                      have z : RgS dA cx (F ++ (((E ++ E1) ++ E2) ++ E3)) (ra, lm, lx) Rg := hRg2.sub (fun z hz => by rw [← List.append_assoc]; exact List.mem_append_left _ hz)
                      rw [hR9, hk8]
                      exact z.set hik rfl ((z.2 k (List.mem_of_getElem? hik)).pt hL9 hy9 (hN.sub (fun b q hq => by rw [← List.append_assoc]; exact List.mem_append_left _ hq) (fun a fs hq => by rw [← List.append_assoc]; exact List.mem_append_left _ hq)))
                    have hcur3 : CurA R9 (some (ci, 2, k.2.2.2.2.2.length)) (some k.1) (some y9.1) := ⟨k8, by rw [hR9]; exact List.getElem?_set_self (List.getElem?_eq_some_iff.mp hik).1, by rw [hk8]; rfl, Or.inr (Or.inr ⟨rfl, y9, by rw [hk8]; exact List.getElem?_concat_length, rfl⟩)⟩
                    have hp3 : pkN (Rg.map kcK, some (ci, ca, cj), many) k2 bd = some (R9.map kcK, some (ci, 2, k.2.2.2.2.2.length), many) := by rw [hun]; unfold undN; rw [if_pos (show k2 = 7 ∨ k2 = 14 by omega), show decide (k2 = 7) = true by rw [hk]; rfl, if_pos hok]; show partN2 _ ci (kcK k) (ptN (k.2.2.2.2.2.map kcP) (numN bd true)) = _; rw [← hnc, pt_miss hf, if_neg (by omega), hR9, ← set_map (y := k8) (z := ((kcK k).1, (kcK k).2.1, (kcK k).2.2.1, k.2.2.2.2.2.map kcP ++ [(nn.2, [])])) (by rw [hk8]; obtain ⟨ua, a4, e⟩ := hy9; rw [e]; unfold kcK kP; dsimp only; rw [List.map_append]; rfl)]; rfl
                    show W p l e R s m args below meth c H locs (cc + 0 + (rC cap bd.length + 1) + 0 + 10 + 3) (cs + 0 + (rS cap bd.length + bd.length) + 0 + (7 * bd.length + 29) + (2 * k.2.2.2.2.2.length + 16)) Q (F0 m 232 ls [.ref y9.1])
                    refine lv_astore (lv' := [(5, .ref y9.1), (9, .ref nn.1), (8, .int (nI 1)), (7, .int (nI 0)), (0, .ref me), (1, .ref ra), (2, .ref ro), (3, .ref o1), (4, .ref k.1), (6, .int (nI many))]) hx hb dX1_readKeys_232 hl (by decide) rfl (fun ls hl => ?_)
                    refine lv_goto (tgt := 310) hx hb dX1_readKeys_234 (by decide) ?_
                    refine lv_goto (tgt := 22) hx hb dX1_readKeys_310 (by decide) ?_
                    exact ih n2 nx k2 (some q0) b2 (gro cap bd.length) g2 bd uh ug lm lx R9 cx (some (ci, 2, k.2.2.2.2.2.length)) (some k.1) (some y9.1) many (fu - 1) (((E ++ E1) ++ E2) ++ E3) _ _ hadv.1 hsr2 hgc.1 hgc.2 hgb2 hgd2 hRg3 hcx hcur3 (hkn.trans (keysN_go hnl hfu0 hpk9 hp3)) (by omega) (by omega) (by (try dsimp only) <;> omega) (by (try dsimp only) <;> omega) (by omega) _ _ h _ (lv_sub hl [4, 5, 6, 7, 8, 0, 9] rfl)
                  · have h : Wd D B s (ringW dA e0 (ra, lm, lx) Rg ++ (([(o1, .inr (11, [.ref rb, .int (nI lw.length), .int (nI n2), .int (nI nx), .int (nI k2), .ref q0, .ref pk])), (ho, .inr (2, [.ref st, .ref fi, .ref bl, .long uh.1, .ref wo])), (st, war dA 5 uh.2.1), (wo, war dA 80 uh.2.2.1), (bl, bar dA 64 uh.2.2.2.2), (dg, bar dA 32 ug), (pk, .inr (1, [.ref b2, .int (nI bd.length)])), (b2, bar dA (gro cap bd.length) g2)] ++ O) ++ (F ++ ((E ++ E1) ++ E2)))) H locs := h.permL (perm_add (fun g f p0 p1 p2 => by (try simp only [p0, p1, p2]) <;> omega))
                    refine call_SX (As := [.ref k.1, .ref nn.1, .ref o1]) (rest := []) (n := 3) C h (cR_partX l D dA B Z hZ ([(o1, .inr (11, [.ref rb, .int (nI lw.length), .int (nI n2), .int (nI nx), .int (nI k2), .ref q0, .ref pk])), (ho, .inr (2, [.ref st, .ref fi, .ref bl, .long uh.1, .ref wo])), (st, war dA 5 uh.2.1), (wo, war dA 80 uh.2.2.1), (bl, bar dA 64 uh.2.2.2.2), (dg, bar dA 32 ug), (pk, .inr (1, [.ref b2, .int (nI bd.length)])), (b2, bar dA (gro cap bd.length) g2)] ++ O) (F ++ ((E ++ E1) ++ E2)) e0 mi (ra, lm, lx) Rg ci k nn o1 rb lw.length n2 nx k2 pk (some q0) hlt hzx hik hN hA9 hP9 (List.mem_append_left _ (List.mem_append_left _ (List.mem_of_getElem? (i := 0) rfl))) hf h16) (lw_S q1271 q1272 q129 q1273) (by decide +kernel) (by decide) (by decide) rfl hl rfl (Nat.le_of_ble_eq_true rfl) dX1_readKeys_229 (by omega) (fun ux ce9 H locs hux h hce9 hcv9 hcl9 => ?_) (fun _ H locs hu h => ?_)
                    · obtain ⟨q8, E8⟩ := ux
                      dsimp only at hux h
                      have hkn9 := hkn.trans (keysN_bad hnl hfu0 hpk9 (by rw [hun]; unfold undN; rw [if_pos (show k2 = 7 ∨ k2 = 14 by omega), show decide (k2 = 7) = true by rw [hk]; rfl, if_pos hok]; show partN2 _ ci (kcK k) (ptN (k.2.2.2.2.2.map kcP) (numN bd true)) = _; rw [← hnc, pt_miss hf, if_pos h16]; rfl))
                      have h : Wd D B s ([(ho, .inr (2, [.ref st, .ref fi, .ref bl, .long uh.1, .ref wo])), (st, war dA 5 uh.2.1), (wo, war dA 80 uh.2.2.1), (bl, bar dA 64 uh.2.2.2.2)] ++ ([(dg, bar dA 32 ug), (pk, .inr (1, [.ref b2, .int (nI bd.length)])), (b2, bar dA (gro cap bd.length) g2)] ++ ([(o1, .inr (11, [.ref rb, .int (nI lw.length), .int (nI n2), .int (nI nx), .int (nI k2), .ref q0, .ref pk]))] ++ (ringW dA e0 (ra, lm, lx) Rg ++ (O ++ (F ++ (((E ++ E1) ++ E2) ++ E8))))))) H locs := h.permL (perm_add (fun g f p0 p1 p2 => by (try simp only [p0, p1, p2]) <;> omega))
                      have h : Wd D B s (h4C dA ho st fi bl wo uh ++ ([(dg, bar dA 32 ug), (pk, .inr (1, [.ref b2, .int (nI bd.length)])), (b2, bar dA (gro cap bd.length) g2)] ++ ([(o1, .inr (11, [.ref rb, .int (nI lw.length), .int (nI n2), .int (nI nx), .int (nI k2), .ref q0, .ref pk]))] ++ (ringW dA e0 (ra, lm, lx) Rg ++ (O ++ (F ++ (((E ++ E1) ++ E2) ++ E8))))))) H locs := h
                      have hft : FaultIn ([(o1, .inr (11, [.ref rb, .int (nI lw.length), .int (nI n2), .int (nI nx), .int (nI k2), .ref q0, .ref pk]))] ++ (ringW dA e0 (ra, lm, lx) Rg ++ (O ++ (F ++ (((E ++ E1) ++ E2) ++ E8))))) q8 (tellN kr lw.length) := by
                        unfold tellN
                        rw [hkn9, if_neg (m1_ne (by omega))]
                        exact hux.up (fun z hz => List.mem_append_right _ (List.mem_append_right _ (List.mem_append_right _ (List.mem_append_right _ (List.mem_append_right _ hz)))))
                      have hk0 : kr.1 = 0 → kr.2.2.2 = 0 := fun q9 => by rw [hkn9] at q9; exact absurd q9 (m1_ne (by omega))
                      subst hQ
                      exact thr_out C hex hlocks h (q8, uh, ug, (b2, gro cap bd.length, g2, bd), [(o1, .inr (11, [.ref rb, .int (nI lw.length), .int (nI n2), .int (nI nx), .int (nI k2), .ref q0, .ref pk]))] ++ (ringW dA e0 (ra, lm, lx) Rg ++ (O ++ (F ++ (((E ++ E1) ++ E2) ++ E8))))) rfl rfl (⟨⟨hgd2, hgb2, hsr2, hgc.1, hgc.2⟩, hft, fun x9 hx9 => List.mem_append_right _ (List.mem_append_right _ (memOE hx9)), hk0⟩) rfl hce9 hcv9 hcl9 (by omega) (by omega)
                    exact hu.elim
                · have h : Wd D B s (ringW dA e0 (ra, lm, lx) Rg ++ (([(o1, .inr (11, [.ref rb, .int (nI lw.length), .int (nI n2), .int (nI nx), .int (nI k2), .ref q0, .ref pk])), (ho, .inr (2, [.ref st, .ref fi, .ref bl, .long uh.1, .ref wo])), (st, war dA 5 uh.2.1), (wo, war dA 80 uh.2.2.1), (bl, bar dA 64 uh.2.2.2.2), (dg, bar dA 32 ug), (pk, .inr (1, [.ref b2, .int (nI bd.length)])), (b2, bar dA (gro cap bd.length) g2)] ++ O) ++ (F ++ ((E ++ E1) ++ E2)))) H locs := h.permL (perm_add (fun g f p0 p1 p2 => by (try simp only [p0, p1, p2]) <;> omega))
                  refine call_S (As := [.ref k.1, .ref nn.1, .ref o1]) (rest := []) (n := 3) C h (cR_partH l D dA B Z hZ ([(o1, .inr (11, [.ref rb, .int (nI lw.length), .int (nI n2), .int (nI nx), .int (nI k2), .ref q0, .ref pk])), (ho, .inr (2, [.ref st, .ref fi, .ref bl, .long uh.1, .ref wo])), (st, war dA 5 uh.2.1), (wo, war dA 80 uh.2.2.1), (bl, bar dA 64 uh.2.2.2.2), (dg, bar dA 32 ug), (pk, .inr (1, [.ref b2, .int (nI bd.length)])), (b2, bar dA (gro cap bd.length) g2)] ++ O) (F ++ ((E ++ E1) ++ E2)) e0 mi (ra, lm, lx) Rg ci j0 k nn o1 y0 hik hj0 hN hA9 hP9 hf) (lw_S q1271 q1272 q129 q1273) (by decide +kernel) (by decide) (by decide) rfl hl rfl (Nat.le_of_ble_eq_true rfl) dX1_readKeys_229 (by omega) (fun u8 H locs hu8 h => ?_)
                  obtain ⟨n9, E3⟩ := u8
                  obtain ⟨e91, hn9⟩ := hu8
                  dsimp only at e91 hn9 h
                  obtain ⟨k8, hk8⟩ : ∃ z, z = kP k k.2.2.2.2.1 (k.2.2.2.2.2.set j0 (y0.1, n9, y0.2.2)) := ⟨_, rfl⟩
                  rw [← hk8] at h
                  obtain ⟨R9, hR9⟩ : ∃ z, z = Rg.set ci k8 := ⟨_, rfl⟩
                  rw [← hR9] at h
                  have h : Wd D B s ([(o1, .inr (11, [.ref rb, .int (nI lw.length), .int (nI n2), .int (nI nx), .int (nI k2), .ref q0, .ref pk])), (ho, .inr (2, [.ref st, .ref fi, .ref bl, .long uh.1, .ref wo])), (st, war dA 5 uh.2.1), (wo, war dA 80 uh.2.2.1), (bl, bar dA 64 uh.2.2.2.2), (dg, bar dA 32 ug), (pk, .inr (1, [.ref b2, .int (nI bd.length)])), (b2, bar dA (gro cap bd.length) g2)] ++ (ringW dA e0 (ra, lm, lx) R9 ++ (O ++ (F ++ (((E ++ E1) ++ E2) ++ E3))))) H locs := h.permL (perm_add (fun g f p0 p1 p2 => by (try simp only [p0, p1, p2]) <;> omega))
                  have hn8 : NumIn dA (F ++ (((E ++ E1) ++ E2) ++ E3)) n9 := by have z := hn9; rw [List.append_assoc] at z; exact z
                  have hRg3 : RgS dA cx (F ++ (((E ++ E1) ++ E2) ++ E3)) (ra, lm, lx) R9 := by
                    have z : RgS dA cx (F ++ (((E ++ E1) ++ E2) ++ E3)) (ra, lm, lx) Rg := hRg2.sub (fun z hz => by rw [← List.append_assoc]; exact List.mem_append_left _ hz)
                    rw [hR9, hk8]
                    exact z.set hik rfl ((z.2 k (List.mem_of_getElem? hik)).ptH hj0 hn8 (by rw [e91]))
                  have hcur3 : CurA R9 (some (ci, 2, j0)) (some k.1) (some y0.1) := ⟨k8, by rw [hR9]; exact List.getElem?_set_self (List.getElem?_eq_some_iff.mp hik).1, by rw [hk8]; rfl, Or.inr (Or.inr ⟨rfl, (y0.1, n9, y0.2.2), by rw [hk8]; exact List.getElem?_set_self (List.getElem?_eq_some_iff.mp hj0).1, rfl⟩)⟩
                  have hp3 : pkN (Rg.map kcK, some (ci, ca, cj), many) k2 bd = some (R9.map kcK, some (ci, 2, j0), many) := by rw [hun]; unfold undN; rw [if_pos (show k2 = 7 ∨ k2 = 14 by omega), show decide (k2 = 7) = true by rw [hk]; rfl, if_pos hok]; show partN2 _ ci (kcK k) (ptN (k.2.2.2.2.2.map kcP) (numN bd true)) = _; rw [← hnc, pt_hit hj0 hno hyes e91, hR9, ← set_map (y := k8) (z := ((kcK k).1, (kcK k).2.1, (kcK k).2.2.1, (k.2.2.2.2.2.set j0 (y0.1, n9, y0.2.2)).map kcP)) (by rw [hk8]; rfl)]; rfl
                  refine lv_astore (lv' := [(5, .ref y0.1), (9, .ref nn.1), (8, .int (nI 1)), (7, .int (nI 0)), (0, .ref me), (1, .ref ra), (2, .ref ro), (3, .ref o1), (4, .ref k.1), (6, .int (nI many))]) hx hb dX1_readKeys_232 hl (by decide) rfl (fun ls hl => ?_)
                  refine lv_goto (tgt := 310) hx hb dX1_readKeys_234 (by decide) ?_
                  refine lv_goto (tgt := 22) hx hb dX1_readKeys_310 (by decide) ?_
                  exact ih n2 nx k2 (some q0) b2 (gro cap bd.length) g2 bd uh ug lm lx R9 cx (some (ci, 2, j0)) (some k.1) (some y0.1) many (fu - 1) (((E ++ E1) ++ E2) ++ E3) _ _ hadv.1 hsr2 hgc.1 hgc.2 hgb2 hgd2 hRg3 hcx hcur3 (hkn.trans (keysN_go hnl hfu0 hpk9 hp3)) (by omega) (by omega) (by (try dsimp only) <;> omega) (by (try dsimp only) <;> omega) (by omega) _ _ h _ (lv_sub hl [4, 5, 6, 7, 8, 0, 9] rfl)
              · have hok : keyOk bd true = false := by cases q9 : keyOk bd true with | true => exact absurd q9 hok | false => rfl
                rw [hno2 hok]
                show W p l e R s m args below meth c H locs (cc + 0 + (rC cap bd.length + 1) + 0 + 10) (cs + 0 + (rS cap bd.length + bd.length) + 0 + (7 * bd.length + 29)) Q (F0 m 169 ls [.null])
                refine lv_goto (tgt := 173) hx hb dX1_readKeys_169 (by decide) ?_
                refine lv_astoreN (lv' := [(9, .null), (8, .int (nI 1)), (7, .int (nI 0)), (0, .ref me), (1, .ref ra), (2, .ref ro), (3, .ref o1), (4, .ref k.1), (5, va_rf lo), (6, .int (nI many))]) hx hb dX1_readKeys_173 hl (by decide) rfl (fun ls hl => ?_)
                refine lv_iload hx hb dX1_readKeys_175 (lv_at hl 2 rfl) ?_
                refine n_if_ne (tgt := 185) hx hb (by omega) dX1_readKeys_177 (by decide) (fun c177 => by exfalso; omega) (fun c177 => ?_)
                refine lv_iload hx hb dX1_readKeys_180 (lv_at hl 1 rfl) ?_
                refine n_if_eq (tgt := 195) hx hb (by omega) dX1_readKeys_182 (by decide) (fun c182 => by exfalso; omega) (fun c182 => ?_)
                refine lv_aloadN hx hb dX1_readKeys_185 (lv_at hl 0 rfl) ?_
                refine lv_ifnonnullN hx hb dX1_readKeys_187 ?_
                refine lv_aload_n hx hb dX1_readKeys_190 rfl (lv_at hl 6 rfl) ?_
                refine call_VR (As := []) (rest := []) (n := 0) C h (c14_fault l D dA B Z hZ _ o1 rb lw.length n2 nx k2 pk (some q0) hlt hzx (List.mem_of_getElem? (i := 0) rfl)) (lw_V q1088 q1064 q1065 q162 q1066) (by decide +kernel) (o_recv C h (RC := RX14) (T := TX14) (N := 7) (List.mem_of_getElem? (i := 0) rfl) rfl) (by decide) (by decide) rfl hl rfl (Nat.le_of_ble_eq_true rfl) dX1_readKeys_191 (by omega) (fun u8 H locs _ h => ?_)
                obtain ⟨q9, x9⟩ := u8
                have h : Wd D B s ([(q9, .inr (10, fts x9 (-1 - nI nx))), (o1, .inr (11, [.ref rb, .int (nI lw.length), .int (nI n2), .int (nI nx), .int (nI k2), .ref q0, .ref pk])), (ho, .inr (2, [.ref st, .ref fi, .ref bl, .long uh.1, .ref wo])), (st, war dA 5 uh.2.1), (wo, war dA 80 uh.2.2.1), (bl, bar dA 64 uh.2.2.2.2), (dg, bar dA 32 ug), (pk, .inr (1, [.ref b2, .int (nI bd.length)])), (b2, bar dA (gro cap bd.length) g2)] ++ (ringW dA e0 (ra, lm, lx) Rg ++ (O ++ (F ++ ((E ++ E1) ++ E2))))) H locs := h
                subst hQ
                have hkn9 := hkn.trans (keysN_bad hnl hfu0 hpk9 (by rw [hun]; unfold undN; rw [if_pos (by omega), if_neg]; rw [show decide (k2 = 7) = true by rw [hk]; rfl, hok]; decide))
                have h : Wd D B s ([(ho, .inr (2, [.ref st, .ref fi, .ref bl, .long uh.1, .ref wo])), (st, war dA 5 uh.2.1), (wo, war dA 80 uh.2.2.1), (bl, bar dA 64 uh.2.2.2.2)] ++ ([(dg, bar dA 32 ug), (pk, .inr (1, [.ref b2, .int (nI bd.length)])), (b2, bar dA (gro cap bd.length) g2)] ++ ([(q9, .inr (10, fts x9 (-1 - nI nx)))] ++ ([(o1, .inr (11, [.ref rb, .int (nI lw.length), .int (nI n2), .int (nI nx), .int (nI k2), .ref q0, .ref pk]))] ++ (ringW dA e0 (ra, lm, lx) Rg ++ (O ++ (F ++ ((E ++ E1) ++ E2)))))))) H locs := h.permL (perm_add (fun g f p0 p1 p2 => by (try simp only [p0, p1, p2]) <;> omega))
                have h : Wd D B s (h4C dA ho st fi bl wo uh ++ ([(dg, bar dA 32 ug), (pk, .inr (1, [.ref b2, .int (nI bd.length)])), (b2, bar dA (gro cap bd.length) g2)] ++ ([(q9, .inr (10, fts x9 (-1 - nI nx)))] ++ ([(o1, .inr (11, [.ref rb, .int (nI lw.length), .int (nI n2), .int (nI nx), .int (nI k2), .ref q0, .ref pk]))] ++ (ringW dA e0 (ra, lm, lx) Rg ++ (O ++ (F ++ ((E ++ E1) ++ E2)))))))) H locs := h
                have hft : FaultIn ([(q9, .inr (10, fts x9 (-1 - nI nx)))] ++ ([(o1, .inr (11, [.ref rb, .int (nI lw.length), .int (nI n2), .int (nI nx), .int (nI k2), .ref q0, .ref pk]))] ++ (ringW dA e0 (ra, lm, lx) Rg ++ (O ++ (F ++ ((E ++ E1) ++ E2)))))) q9 (tellN kr lw.length) := by
                  unfold tellN
                  rw [hkn9, if_neg (m1_ne (by omega))]
                  exact ⟨x9, List.mem_append_left _ List.mem_cons_self⟩
                have hk0 : kr.1 = 0 → kr.2.2.2 = 0 := fun q9 => by rw [hkn9] at q9; exact absurd q9 (m1_ne (by omega))
                exact x_athrow C hex hlocks h (List.mem_append_right _ (List.mem_append_right _ (List.mem_append_left _ List.mem_cons_self))) rfl (q9, uh, ug, (b2, gro cap bd.length, g2, bd), [(q9, .inr (10, fts x9 (-1 - nI nx)))] ++ ([(o1, .inr (11, [.ref rb, .int (nI lw.length), .int (nI n2), .int (nI nx), .int (nI k2), .ref q0, .ref pk]))] ++ (ringW dA e0 (ra, lm, lx) Rg ++ (O ++ (F ++ ((E ++ E1) ++ E2)))))) rfl rfl (⟨⟨hgd2, hgb2, hsr2, hgc.1, hgc.2⟩, hft, fun x9 hx9 => List.mem_append_right _ (List.mem_append_right _ (List.mem_append_right _ (memOE hx9))), hk0⟩) rfl (by omega) (by omega) dX1_readKeys_194
          · have hkp : ¬ (k2 = 10 ∨ k2 = 12 ∨ k2 = 17 ∨ 40 ≤ k2) := by omega
            rw [if_neg (show ¬ k2 = 11 by omega)] at hbo2
            obtain ⟨q0, e8, hq8, hfr8⟩ := hbo2
            have hq1 := mem_new hp1 hq8 hfr8
            rw [e8] at h
            have hq2 : (q0, bal dA bd) ∈ F ++ (E ++ E1) := List.mem_append_right _ (List.mem_append_right _ hq1)
            have h : Wd D B s ([(o1, .inr (11, [.ref rb, .int (nI lw.length), .int (nI n2), .int (nI nx), .int (nI k2), .ref q0, .ref pk])), (ho, .inr (2, [.ref st, .ref fi, .ref bl, .long u.1, .ref wo])), (st, war dA 5 u.2.1), (wo, war dA 80 u.2.2.1), (bl, bar dA 64 u.2.2.2.2), (dg, bar dA 32 gd), (pk, .inr (1, [.ref b2, .int (nI bd.length)])), (b2, bar dA (gro cap bd.length) g2)] ++ (ringW dA e0 (ra, lm, lx) Rg ++ (O ++ (F ++ (E ++ E1))))) H locs := h
            have hk56 : ¬ (k2 = 5 ∨ k2 = 6) := by omega
            rcases cu with _ | c8
            · obtain ⟨hko, hlo⟩ := hcur
              rw [hko, hlo] at hl
              have hl : lv_has ls 11 [(0, .ref me), (1, .ref ra), (2, .ref ro), (3, .ref o1), (4, .null), (5, .null), (6, .int (nI many))] := hl
              refine lv_aload_n hx hb dX1_readKeys_33 rfl (lv_at hl 3 rfl) ?_
              refine call_VR (As := []) (rest := []) (n := 0) C h (c14_isPassed l D dA B Z hZ ([(ho, .inr (2, [.ref st, .ref fi, .ref bl, .long u.1, .ref wo])), (st, war dA 5 u.2.1), (wo, war dA 80 u.2.2.1), (bl, bar dA 64 u.2.2.2.2), (dg, bar dA 32 gd), (pk, .inr (1, [.ref b2, .int (nI bd.length)])), (b2, bar dA (gro cap bd.length) g2)] ++ (ringW dA e0 (ra, lm, lx) Rg ++ (O ++ (F ++ (E ++ E1))))) o1 rb pk lw.length n2 nx k2 (some q0) (by omega)) (lw_V q1084 q1085 q1086 q162 q1087) (by decide +kernel) (o_recv C h (RC := RX14) (T := TX14) (N := 7) (List.mem_of_getElem? (i := 0) rfl) rfl) (by decide) (by decide) rfl hl rfl (Nat.le_of_ble_eq_true rfl) dX1_readKeys_34 (by omega) (fun _ H locs _ h => ?_)
              have h : Wd D B s ([(o1, .inr (11, [.ref rb, .int (nI lw.length), .int (nI n2), .int (nI nx), .int (nI k2), .ref q0, .ref pk])), (ho, .inr (2, [.ref st, .ref fi, .ref bl, .long u.1, .ref wo])), (st, war dA 5 u.2.1), (wo, war dA 80 u.2.2.1), (bl, bar dA 64 u.2.2.2.2), (dg, bar dA 32 gd), (pk, .inr (1, [.ref b2, .int (nI bd.length)])), (b2, bar dA (gro cap bd.length) g2)] ++ (ringW dA e0 (ra, lm, lx) Rg ++ (O ++ (F ++ (E ++ E1))))) H locs := h
              have h : Wd D B s ([(o1, .inr (11, [.ref rb, .int (nI lw.length), .int (nI n2), .int (nI nx), .int (nI k2), .ref q0, .ref pk])), (ho, .inr (2, [.ref st, .ref fi, .ref bl, .long u.1, .ref wo])), (st, war dA 5 u.2.1), (wo, war dA 80 u.2.2.1), (bl, bar dA 64 u.2.2.2.2), (dg, bar dA 32 gd), (pk, .inr (1, [.ref b2, .int (nI bd.length)])), (b2, bar dA (gro cap bd.length) g2)] ++ (ringW dA e0 (ra, lm, lx) Rg ++ (O ++ (F ++ (E ++ E1))))) H locs := h.permL (perm_add (fun g f p0 p1 p2 => by (try simp only [p0, p1, p2]) <;> omega))
              refine z_if_eq (tgt := 43) hx hb dX1_readKeys_37 (by decide) (fun c37 => ?_) (fun c37 => by exfalso; exact hkp (of_decide_eq_true c37))
              refine lv_aload_n hx hb dX1_readKeys_43 rfl (lv_at hl 3 rfl) ?_
              refine o_get C h (RC := RX14) (T := TX14) (N := 7) (List.mem_of_getElem? (i := 0) rfl) rfl in_X14 4 (by decide) q1031 rfl (v := .int (nI k2)) rfl dX1_readKeys_44 ?_
              refine lv_bipush (v := nI 6) hx hb dX1_readKeys_47 (by decide) ?_
              refine n_icmp_eq (tgt := 60) hx hb (by omega) (by omega) dX1_readKeys_49 (by decide) (fun c49 => by exfalso; omega) (fun c49 => ?_)
              refine lv_aload_n hx hb dX1_readKeys_52 rfl (lv_at hl 3 rfl) ?_
              refine o_get C h (RC := RX14) (T := TX14) (N := 7) (List.mem_of_getElem? (i := 0) rfl) rfl in_X14 4 (by decide) q1031 rfl (v := .int (nI k2)) rfl dX1_readKeys_53 ?_
              refine lv_iconst (v := nI 5) hx hb dX1_readKeys_56 (by decide) ?_
              refine n_icmp_ne (tgt := 64) hx hb (by omega) (by omega) dX1_readKeys_57 (by decide) (fun c57 => ?_) (fun c57 => by exfalso; omega)
              refine lv_iconst (v := nI 0) hx hb dX1_readKeys_64 (by decide) ?_
              refine lv_istore (lv' := [(7, .int (nI 0)), (0, .ref me), (1, .ref ra), (2, .ref ro), (3, .ref o1), (4, .null), (5, .null), (6, .int (nI many))]) hx hb dX1_readKeys_65 hl (by decide) rfl (fun ls hl => ?_)
              refine lv_aload_n hx hb dX1_readKeys_67 rfl (lv_at hl 4 rfl) ?_
              refine o_get C h (RC := RX14) (T := TX14) (N := 7) (List.mem_of_getElem? (i := 0) rfl) rfl in_X14 4 (by decide) q1031 rfl (v := .int (nI k2)) rfl dX1_readKeys_68 ?_
              refine lv_bipush (v := nI 14) hx hb dX1_readKeys_71 (by decide) ?_
              refine n_icmp_eq (tgt := 85) hx hb (by omega) (by omega) dX1_readKeys_73 (by decide) (fun c73 => ?_) (fun c73 => by exfalso; omega)
              refine lv_iconst (v := nI 1) hx hb dX1_readKeys_85 (by decide) ?_
              refine lv_goto (tgt := 90) hx hb dX1_readKeys_86 (by decide) ?_
              refine lv_istore (lv' := [(8, .int (nI 1)), (7, .int (nI 0)), (0, .ref me), (1, .ref ra), (2, .ref ro), (3, .ref o1), (4, .null), (5, .null), (6, .int (nI many))]) hx hb dX1_readKeys_90 hl (by decide) rfl (fun ls hl => ?_)
              refine lv_iload hx hb dX1_readKeys_92 (lv_at hl 1 rfl) ?_
              refine n_if_ne (tgt := 129) hx hb (by omega) dX1_readKeys_94 (by decide) (fun c94 => by exfalso; omega) (fun c94 => ?_)
              refine lv_aloadN hx hb dX1_readKeys_97 (lv_at hl 6 rfl) ?_
              refine lv_ifnullN (tgt := 124) hx hb dX1_readKeys_99 (by decide) ?_
              refine lv_aload_n hx hb dX1_readKeys_124 rfl (lv_at hl 5 rfl) ?_
              refine call_VR (As := []) (rest := []) (n := 0) C h (c14_fault l D dA B Z hZ _ o1 rb lw.length n2 nx k2 pk (some q0) hlt hzx (List.mem_of_getElem? (i := 0) rfl)) (lw_V q1088 q1064 q1065 q162 q1066) (by decide +kernel) (o_recv C h (RC := RX14) (T := TX14) (N := 7) (List.mem_of_getElem? (i := 0) rfl) rfl) (by decide) (by decide) rfl hl rfl (Nat.le_of_ble_eq_true rfl) dX1_readKeys_125 (by omega) (fun u8 H locs _ h => ?_)
              obtain ⟨q9, x9⟩ := u8
              have h : Wd D B s ([(q9, .inr (10, fts x9 (-1 - nI nx))), (o1, .inr (11, [.ref rb, .int (nI lw.length), .int (nI n2), .int (nI nx), .int (nI k2), .ref q0, .ref pk])), (ho, .inr (2, [.ref st, .ref fi, .ref bl, .long u.1, .ref wo])), (st, war dA 5 u.2.1), (wo, war dA 80 u.2.2.1), (bl, bar dA 64 u.2.2.2.2), (dg, bar dA 32 gd), (pk, .inr (1, [.ref b2, .int (nI bd.length)])), (b2, bar dA (gro cap bd.length) g2)] ++ (ringW dA e0 (ra, lm, lx) Rg ++ (O ++ (F ++ (E ++ E1))))) H locs := h
              subst hQ
              have hkn9 := hkn.trans (keysN_bad hnl hfu0 hpk9 (pkN_no hkp hk56 rfl))
              have h : Wd D B s ([(ho, .inr (2, [.ref st, .ref fi, .ref bl, .long u.1, .ref wo])), (st, war dA 5 u.2.1), (wo, war dA 80 u.2.2.1), (bl, bar dA 64 u.2.2.2.2)] ++ ([(dg, bar dA 32 gd), (pk, .inr (1, [.ref b2, .int (nI bd.length)])), (b2, bar dA (gro cap bd.length) g2)] ++ ([(q9, .inr (10, fts x9 (-1 - nI nx)))] ++ ([(o1, .inr (11, [.ref rb, .int (nI lw.length), .int (nI n2), .int (nI nx), .int (nI k2), .ref q0, .ref pk]))] ++ (ringW dA e0 (ra, lm, lx) Rg ++ (O ++ (F ++ (E ++ E1)))))))) H locs := h.permL (perm_add (fun g f p0 p1 p2 => by (try simp only [p0, p1, p2]) <;> omega))
              have h : Wd D B s (h4C dA ho st fi bl wo u ++ ([(dg, bar dA 32 gd), (pk, .inr (1, [.ref b2, .int (nI bd.length)])), (b2, bar dA (gro cap bd.length) g2)] ++ ([(q9, .inr (10, fts x9 (-1 - nI nx)))] ++ ([(o1, .inr (11, [.ref rb, .int (nI lw.length), .int (nI n2), .int (nI nx), .int (nI k2), .ref q0, .ref pk]))] ++ (ringW dA e0 (ra, lm, lx) Rg ++ (O ++ (F ++ (E ++ E1)))))))) H locs := h
              have hft : FaultIn ([(q9, .inr (10, fts x9 (-1 - nI nx)))] ++ ([(o1, .inr (11, [.ref rb, .int (nI lw.length), .int (nI n2), .int (nI nx), .int (nI k2), .ref q0, .ref pk]))] ++ (ringW dA e0 (ra, lm, lx) Rg ++ (O ++ (F ++ (E ++ E1)))))) q9 (tellN kr lw.length) := by
                unfold tellN
                rw [hkn9, if_neg (m1_ne (by omega))]
                exact ⟨x9, List.mem_append_left _ List.mem_cons_self⟩
              have hk0 : kr.1 = 0 → kr.2.2.2 = 0 := fun q9 => by rw [hkn9] at q9; exact absurd q9 (m1_ne (by omega))
              exact x_athrow C hex hlocks h (List.mem_append_right _ (List.mem_append_right _ (List.mem_append_left _ List.mem_cons_self))) rfl (q9, u, gd, (b2, gro cap bd.length, g2, bd), [(q9, .inr (10, fts x9 (-1 - nI nx)))] ++ ([(o1, .inr (11, [.ref rb, .int (nI lw.length), .int (nI n2), .int (nI nx), .int (nI k2), .ref q0, .ref pk]))] ++ (ringW dA e0 (ra, lm, lx) Rg ++ (O ++ (F ++ (E ++ E1)))))) rfl rfl (⟨⟨hgd, hgb, hsr2, hgc.1, hgc.2⟩, hft, fun x9 hx9 => List.mem_append_right _ (List.mem_append_right _ (List.mem_append_right _ (memOE hx9))), hk0⟩) rfl (by omega) (by omega) dX1_readKeys_128
            · obtain ⟨ci, ca, cj⟩ := c8
              obtain ⟨k, hik, hko, hlt9⟩ := hcur
              dsimp only at hik hlt9
              rw [hko] at hl
              have hl : lv_has ls 11 [(0, .ref me), (1, .ref ra), (2, .ref ro), (3, .ref o1), (4, .ref k.1), (5, va_rf lo), (6, .int (nI many))] := hl
              have hkS := hRg1.2 k (List.mem_of_getElem? hik)
              have hun := pkN_un (m := many) (bd := bd) (a := ca) (j := cj) hkp hk56 hik
              refine lv_aload_n hx hb dX1_readKeys_33 rfl (lv_at hl 3 rfl) ?_
              refine call_VR (As := []) (rest := []) (n := 0) C h (c14_isPassed l D dA B Z hZ ([(ho, .inr (2, [.ref st, .ref fi, .ref bl, .long u.1, .ref wo])), (st, war dA 5 u.2.1), (wo, war dA 80 u.2.2.1), (bl, bar dA 64 u.2.2.2.2), (dg, bar dA 32 gd), (pk, .inr (1, [.ref b2, .int (nI bd.length)])), (b2, bar dA (gro cap bd.length) g2)] ++ (ringW dA e0 (ra, lm, lx) Rg ++ (O ++ (F ++ (E ++ E1))))) o1 rb pk lw.length n2 nx k2 (some q0) (by omega)) (lw_V q1084 q1085 q1086 q162 q1087) (by decide +kernel) (o_recv C h (RC := RX14) (T := TX14) (N := 7) (List.mem_of_getElem? (i := 0) rfl) rfl) (by decide) (by decide) rfl hl rfl (Nat.le_of_ble_eq_true rfl) dX1_readKeys_34 (by omega) (fun _ H locs _ h => ?_)
              have h : Wd D B s ([(o1, .inr (11, [.ref rb, .int (nI lw.length), .int (nI n2), .int (nI nx), .int (nI k2), .ref q0, .ref pk])), (ho, .inr (2, [.ref st, .ref fi, .ref bl, .long u.1, .ref wo])), (st, war dA 5 u.2.1), (wo, war dA 80 u.2.2.1), (bl, bar dA 64 u.2.2.2.2), (dg, bar dA 32 gd), (pk, .inr (1, [.ref b2, .int (nI bd.length)])), (b2, bar dA (gro cap bd.length) g2)] ++ (ringW dA e0 (ra, lm, lx) Rg ++ (O ++ (F ++ (E ++ E1))))) H locs := h
              have h : Wd D B s ([(o1, .inr (11, [.ref rb, .int (nI lw.length), .int (nI n2), .int (nI nx), .int (nI k2), .ref q0, .ref pk])), (ho, .inr (2, [.ref st, .ref fi, .ref bl, .long u.1, .ref wo])), (st, war dA 5 u.2.1), (wo, war dA 80 u.2.2.1), (bl, bar dA 64 u.2.2.2.2), (dg, bar dA 32 gd), (pk, .inr (1, [.ref b2, .int (nI bd.length)])), (b2, bar dA (gro cap bd.length) g2)] ++ (ringW dA e0 (ra, lm, lx) Rg ++ (O ++ (F ++ (E ++ E1))))) H locs := h.permL (perm_add (fun g f p0 p1 p2 => by (try simp only [p0, p1, p2]) <;> omega))
              refine z_if_eq (tgt := 43) hx hb dX1_readKeys_37 (by decide) (fun c37 => ?_) (fun c37 => by exfalso; exact hkp (of_decide_eq_true c37))
              refine lv_aload_n hx hb dX1_readKeys_43 rfl (lv_at hl 3 rfl) ?_
              refine o_get C h (RC := RX14) (T := TX14) (N := 7) (List.mem_of_getElem? (i := 0) rfl) rfl in_X14 4 (by decide) q1031 rfl (v := .int (nI k2)) rfl dX1_readKeys_44 ?_
              refine lv_bipush (v := nI 6) hx hb dX1_readKeys_47 (by decide) ?_
              refine n_icmp_eq (tgt := 60) hx hb (by omega) (by omega) dX1_readKeys_49 (by decide) (fun c49 => by exfalso; omega) (fun c49 => ?_)
              refine lv_aload_n hx hb dX1_readKeys_52 rfl (lv_at hl 3 rfl) ?_
              refine o_get C h (RC := RX14) (T := TX14) (N := 7) (List.mem_of_getElem? (i := 0) rfl) rfl in_X14 4 (by decide) q1031 rfl (v := .int (nI k2)) rfl dX1_readKeys_53 ?_
              refine lv_iconst (v := nI 5) hx hb dX1_readKeys_56 (by decide) ?_
              refine n_icmp_ne (tgt := 64) hx hb (by omega) (by omega) dX1_readKeys_57 (by decide) (fun c57 => ?_) (fun c57 => by exfalso; omega)
              refine lv_iconst (v := nI 0) hx hb dX1_readKeys_64 (by decide) ?_
              refine lv_istore (lv' := [(7, .int (nI 0)), (0, .ref me), (1, .ref ra), (2, .ref ro), (3, .ref o1), (4, .ref k.1), (5, va_rf lo), (6, .int (nI many))]) hx hb dX1_readKeys_65 hl (by decide) rfl (fun ls hl => ?_)
              refine lv_aload_n hx hb dX1_readKeys_67 rfl (lv_at hl 4 rfl) ?_
              refine o_get C h (RC := RX14) (T := TX14) (N := 7) (List.mem_of_getElem? (i := 0) rfl) rfl in_X14 4 (by decide) q1031 rfl (v := .int (nI k2)) rfl dX1_readKeys_68 ?_
              refine lv_bipush (v := nI 14) hx hb dX1_readKeys_71 (by decide) ?_
              refine n_icmp_eq (tgt := 85) hx hb (by omega) (by omega) dX1_readKeys_73 (by decide) (fun c73 => ?_) (fun c73 => by exfalso; omega)
              refine lv_iconst (v := nI 1) hx hb dX1_readKeys_85 (by decide) ?_
              refine lv_goto (tgt := 90) hx hb dX1_readKeys_86 (by decide) ?_
              refine lv_istore (lv' := [(8, .int (nI 1)), (7, .int (nI 0)), (0, .ref me), (1, .ref ra), (2, .ref ro), (3, .ref o1), (4, .ref k.1), (5, va_rf lo), (6, .int (nI many))]) hx hb dX1_readKeys_90 hl (by decide) rfl (fun ls hl => ?_)
              refine lv_iload hx hb dX1_readKeys_92 (lv_at hl 1 rfl) ?_
              refine n_if_ne (tgt := 129) hx hb (by omega) dX1_readKeys_94 (by decide) (fun c94 => by exfalso; omega) (fun c94 => ?_)
              refine lv_aload hx hb dX1_readKeys_97 (lv_at hl 6 rfl) ?_
              refine lv_ifnull hx hb dX1_readKeys_99 ?_
              refine lv_iload hx hb dX1_readKeys_102 (lv_at hl 0 rfl) ?_
              refine n_if_ne (tgt := 129) hx hb (by omega) dX1_readKeys_104 (by decide) (fun c104 => ?_) (fun c104 => by exfalso; omega)
              refine lv_iload hx hb dX1_readKeys_129 (lv_at hl 1 rfl) ?_
              refine n_if_ne (tgt := 139) hx hb (by omega) dX1_readKeys_131 (by decide) (fun c131 => by exfalso; omega) (fun c131 => ?_)
              refine lv_iload hx hb dX1_readKeys_134 (lv_at hl 0 rfl) ?_
              refine n_if_eq (tgt := 172) hx hb (by omega) dX1_readKeys_136 (by decide) (fun c136 => by exfalso; omega) (fun c136 => ?_)
              refine lv_aload_n hx hb dX1_readKeys_139 rfl (lv_at hl 2 rfl) ?_
              refine lv_aload_n hx hb dX1_readKeys_140 rfl (lv_at hl 5 rfl) ?_
              refine o_get C h (RC := RX14) (T := TX14) (N := 7) (List.mem_of_getElem? (i := 0) rfl) rfl in_X14 5 (by decide) q1033 rfl (v := .ref q0) rfl dX1_readKeys_141 ?_
              refine lv_aload_n hx hb dX1_readKeys_144 rfl (lv_at hl 5 rfl) ?_
              refine o_get C h (RC := RX14) (T := TX14) (N := 7) (List.mem_of_getElem? (i := 0) rfl) rfl in_X14 4 (by decide) q1031 rfl (v := .int (nI k2)) rfl dX1_readKeys_145 ?_
              refine lv_iconst (v := nI 5) hx hb dX1_readKeys_148 (by decide) ?_
              refine n_icmp_eq (tgt := 161) hx hb (by omega) (by omega) dX1_readKeys_149 (by decide) (fun c149 => by exfalso; omega) (fun c149 => ?_)
              refine lv_aload_n hx hb dX1_readKeys_152 rfl (lv_at hl 5 rfl) ?_
              refine o_get C h (RC := RX14) (T := TX14) (N := 7) (List.mem_of_getElem? (i := 0) rfl) rfl in_X14 4 (by decide) q1031 rfl (v := .int (nI k2)) rfl dX1_readKeys_153 ?_
              refine lv_bipush (v := nI 7) hx hb dX1_readKeys_156 (by decide) ?_
              refine n_icmp_ne (tgt := 165) hx hb (by omega) (by omega) dX1_readKeys_158 (by decide) (fun c158 => ?_) (fun c158 => by exfalso; omega)
              refine lv_iconst (v := nI 0) hx hb dX1_readKeys_165 (by decide) ?_
              refine n_top (y := bZ false) rfl ?_
              have h : Wd D B s ([(ho, .inr (2, [.ref st, .ref fi, .ref bl, .long u.1, .ref wo])), (st, war dA 5 u.2.1), (wo, war dA 80 u.2.2.1), (bl, bar dA 64 u.2.2.2.2), (dg, bar dA 32 gd), (o1, .inr (11, [.ref rb, .int (nI lw.length), .int (nI n2), .int (nI nx), .int (nI k2), .ref q0, .ref pk])), (pk, .inr (1, [.ref b2, .int (nI bd.length)])), (b2, bar dA (gro cap bd.length) g2)] ++ (ringW dA e0 (ra, lm, lx) Rg ++ (O ++ (F ++ (E ++ E1))))) H locs := h.perm [1, 2, 3, 4, 5, 0, 6, 7] rfl rfl
              have h : Wd D B s (h4C dA ho st fi bl wo u ++ ([(dg, bar dA 32 gd)] ++ ([(o1, .inr (11, [.ref rb, .int (nI lw.length), .int (nI n2), .int (nI nx), .int (nI k2), .ref q0, .ref pk])), (pk, .inr (1, [.ref b2, .int (nI bd.length)])), (b2, bar dA (gro cap bd.length) g2)] ++ (ringW dA e0 (ra, lm, lx) Rg ++ (O ++ (F ++ (E ++ E1))))))) H locs := h
              refine call_VR (As := [.ref q0, .int (bZ false)]) (rest := []) (n := 2) C h (c1_numbers l D dA B Z hZ ([(o1, .inr (11, [.ref rb, .int (nI lw.length), .int (nI n2), .int (nI nx), .int (nI k2), .ref q0, .ref pk])), (pk, .inr (1, [.ref b2, .int (nI bd.length)])), (b2, bar dA (gro cap bd.length) g2)] ++ (ringW dA e0 (ra, lm, lx) Rg ++ (O ++ (F ++ (E ++ E1))))) ho st fi bl wo me bs dc ou rg h2 dg tk pl pk tx sd sz po u gd q0 bd false (List.mem_append_right _ (List.mem_append_right _ (memOE hfi))) (List.mem_append_right _ (List.mem_append_right _ (memOE hmC))) hgb hgd (List.mem_append_right _ (List.mem_append_right _ (List.mem_append_right _ hq2))) hbd hbl) (lw_V q1089 q1091 qs11 q129 q1092) (by decide +kernel) (o_recv C h (RC := RX1) (T := TX1) (N := 14) (List.mem_append_right _ (List.mem_append_right _ (List.mem_append_right _ (List.mem_append_right _ (memOE hmC))))) rfl) (by decide) (by decide) rfl hl rfl (Nat.le_of_ble_eq_true rfl) dX1_readKeys_166 (by omega) (fun u8 H locs hu8 h => ?_)
              obtain ⟨uh, ug, nq, E2⟩ := u8
              obtain ⟨hgd2, hgb2, hno2, hyes2⟩ := hu8
              dsimp only at hgd2 hgb2 hno2 hyes2 h
              have h : Wd D B s ([(ho, .inr (2, [.ref st, .ref fi, .ref bl, .long uh.1, .ref wo])), (st, war dA 5 uh.2.1), (wo, war dA 80 uh.2.2.1), (bl, bar dA 64 uh.2.2.2.2)] ++ ([(dg, bar dA 32 ug)] ++ (([(o1, .inr (11, [.ref rb, .int (nI lw.length), .int (nI n2), .int (nI nx), .int (nI k2), .ref q0, .ref pk])), (pk, .inr (1, [.ref b2, .int (nI bd.length)])), (b2, bar dA (gro cap bd.length) g2)] ++ (ringW dA e0 (ra, lm, lx) Rg ++ (O ++ (F ++ (E ++ E1))))) ++ E2))) H locs := h
              have h : Wd D B s ([(o1, .inr (11, [.ref rb, .int (nI lw.length), .int (nI n2), .int (nI nx), .int (nI k2), .ref q0, .ref pk])), (ho, .inr (2, [.ref st, .ref fi, .ref bl, .long uh.1, .ref wo])), (st, war dA 5 uh.2.1), (wo, war dA 80 uh.2.2.1), (bl, bar dA 64 uh.2.2.2.2), (dg, bar dA 32 ug), (pk, .inr (1, [.ref b2, .int (nI bd.length)])), (b2, bar dA (gro cap bd.length) g2)] ++ (ringW dA e0 (ra, lm, lx) Rg ++ (O ++ (F ++ ((E ++ E1) ++ E2))))) H locs := h.permL (perm_add (fun g f p0 p1 p2 => by (try simp only [p0, p1, p2]) <;> omega))
              have hRg2 : RgS dA cx (F ++ ((E ++ E1) ++ E2)) (ra, lm, lx) Rg := hRg1.sub (fun z hz => by rw [← List.append_assoc]; exact List.mem_append_left _ hz)
              by_cases hok : keyOk bd false = true
              · obtain ⟨qn, e7, hN0⟩ := hyes2 hok
                rw [e7]
                show W p l e R s m args below meth c H locs (cc + 0 + (rC cap bd.length + 1) + 0 + 10) (cs + 0 + (rS cap bd.length + bd.length) + 0 + (7 * bd.length + 29)) Q (F0 m 169 ls [.ref qn])
                obtain ⟨nn, hnn⟩ : ∃ z : NBr, z = (qn, bd.take (kSize bd), secO bd false) := ⟨_, rfl⟩
                rw [← hnn] at hN0
                have hqn : qn = nn.1 := by rw [hnn]
                rw [hqn]
                have hnc : nn.2 = numN bd false := by rw [hnn]; rfl
                have hN : NumIn dA (F ++ ((E ++ E1) ++ E2)) nn := hN0.rt.rt
                have hbig : 63 ≤ bd.length := by
                  have z := keyOk_nums hok hbd (by omega)
                  have l1 : (kU1 bd).2.1 ≤ bd.length := (oneS_le (Nat.zero_le _)).1
                  have l2 : (kU2 bd).2.1 ≤ bd.length := (someS_ok hbd 4 0 0 _ l1 (by decide)).2.1
                  have l3 : (kU3 bd).2.1 ≤ bd.length := (oneS_le l2).1
                  have z2 : (kN bd).length ≤ bd.length := (numS_ok hbd _ l3).2.2.1
                  omega
                refine lv_goto (tgt := 173) hx hb dX1_readKeys_169 (by decide) ?_
                refine lv_astore (lv' := [(9, .ref nn.1), (8, .int (nI 1)), (7, .int (nI 0)), (0, .ref me), (1, .ref ra), (2, .ref ro), (3, .ref o1), (4, .ref k.1), (5, va_rf lo), (6, .int (nI many))]) hx hb dX1_readKeys_173 hl (by decide) rfl (fun ls hl => ?_)
                refine lv_iload hx hb dX1_readKeys_175 (lv_at hl 2 rfl) ?_
                refine n_if_ne (tgt := 185) hx hb (by omega) dX1_readKeys_177 (by decide) (fun c177 => by exfalso; omega) (fun c177 => ?_)
                refine lv_iload hx hb dX1_readKeys_180 (lv_at hl 1 rfl) ?_
                refine n_if_eq (tgt := 195) hx hb (by omega) dX1_readKeys_182 (by decide) (fun c182 => by exfalso; omega) (fun c182 => ?_)
                refine lv_aload hx hb dX1_readKeys_185 (lv_at hl 0 rfl) ?_
                refine lv_ifnonnull (tgt := 195) hx hb dX1_readKeys_187 (by decide) ?_
                refine lv_iload hx hb dX1_readKeys_195 (lv_at hl 2 rfl) ?_
                refine n_if_eq (tgt := 219) hx hb (by omega) dX1_readKeys_197 (by decide) (fun c197 => ?_) (fun c197 => by exfalso; omega)
                refine lv_iload hx hb dX1_readKeys_219 (lv_at hl 1 rfl) ?_
                refine n_if_eq (tgt := 237) hx hb (by omega) dX1_readKeys_221 (by decide) (fun c221 => by exfalso; omega) (fun c221 => ?_)
                refine lv_aload hx hb dX1_readKeys_224 (lv_at hl 7 rfl) ?_
                refine lv_aload hx hb dX1_readKeys_226 (lv_at hl 0 rfl) ?_
                refine lv_aload_n hx hb dX1_readKeys_228 rfl (lv_at hl 6 rfl) ?_
                have hkS2 := hRg2.2 k (List.mem_of_getElem? hik)
                have hA9 := hkS2.1.2.2.2.1
                have hP9 : ∀ y ∈ k.2.2.2.2.2, NumIn dA (F ++ ((E ++ E1) ++ E2)) y.2.1 := fun y hy => (hkS2.1.2.2.2.2.2 y hy).1
                rcases find_ix (f := ptHas (sha1 (keyMsg nn.2.1))) k.2.2.2.2.2 with hf | ⟨j0, y0, hj0, hyes, hno, hf⟩
                · have h88 := hA9.2.2
                  rcases (show k.2.2.2.2.2.length < 8 ∨ k.2.2.2.2.2.length = 8 by omega) with h16 | h16
                  · have h : Wd D B s (ringW dA e0 (ra, lm, lx) Rg ++ (([(o1, .inr (11, [.ref rb, .int (nI lw.length), .int (nI n2), .int (nI nx), .int (nI k2), .ref q0, .ref pk])), (ho, .inr (2, [.ref st, .ref fi, .ref bl, .long uh.1, .ref wo])), (st, war dA 5 uh.2.1), (wo, war dA 80 uh.2.2.1), (bl, bar dA 64 uh.2.2.2.2), (dg, bar dA 32 ug), (pk, .inr (1, [.ref b2, .int (nI bd.length)])), (b2, bar dA (gro cap bd.length) g2)] ++ O) ++ (F ++ ((E ++ E1) ++ E2)))) H locs := h.permL (perm_add (fun g f p0 p1 p2 => by (try simp only [p0, p1, p2]) <;> omega))
                    refine call_S (As := [.ref k.1, .ref nn.1, .ref o1]) (rest := []) (n := 3) C h (cR_partN l D dA B Z hZ ([(o1, .inr (11, [.ref rb, .int (nI lw.length), .int (nI n2), .int (nI nx), .int (nI k2), .ref q0, .ref pk])), (ho, .inr (2, [.ref st, .ref fi, .ref bl, .long uh.1, .ref wo])), (st, war dA 5 uh.2.1), (wo, war dA 80 uh.2.2.1), (bl, bar dA 64 uh.2.2.2.2), (dg, bar dA 32 ug), (pk, .inr (1, [.ref b2, .int (nI bd.length)])), (b2, bar dA (gro cap bd.length) g2)] ++ O) (F ++ ((E ++ E1) ++ E2)) e0 mi (ra, lm, lx) Rg ci k nn o1 rb lw.length n2 nx k2 pk (some q0) hzs hza hik hN hA9 hP9 hf h16) (lw_S q1271 q1272 q129 q1273) (by decide +kernel) (by decide) (by decide) rfl hl rfl (Nat.le_of_ble_eq_true rfl) dX1_readKeys_229 (by omega) (fun u8 H locs hu8 h => ?_)
                    obtain ⟨y9, ⟨xa9, xm9, xx9⟩, E3⟩ := u8
                    obtain ⟨hy9, hxa, hL9⟩ := hu8
                    dsimp only at hy9 hxa hL9 h
                    obtain ⟨k8, hk8⟩ : ∃ z, z = kP k (xa9, xm9, xx9) (k.2.2.2.2.2 ++ [y9]) := ⟨_, rfl⟩
                    rw [← hk8] at h
                    obtain ⟨R9, hR9⟩ : ∃ z, z = Rg.set ci k8 := ⟨_, rfl⟩
                    rw [← hR9] at h
                    have h : Wd D B s ([(o1, .inr (11, [.ref rb, .int (nI lw.length), .int (nI n2), .int (nI nx), .int (nI k2), .ref q0, .ref pk])), (ho, .inr (2, [.ref st, .ref fi, .ref bl, .long uh.1, .ref wo])), (st, war dA 5 uh.2.1), (wo, war dA 80 uh.2.2.1), (bl, bar dA 64 uh.2.2.2.2), (dg, bar dA 32 ug), (pk, .inr (1, [.ref b2, .int (nI bd.length)])), (b2, bar dA (gro cap bd.length) g2)] ++ (ringW dA e0 (ra, lm, lx) R9 ++ (O ++ (F ++ (((E ++ E1) ++ E2) ++ E3))))) H locs := h.permL (perm_add (fun g f p0 p1 p2 => by (try simp only [p0, p1, p2]) <;> omega))
                    have hRg3 : RgS dA cx (F ++ (((E ++ E1) ++ E2) ++ E3)) (ra, lm, lx) R9 := by
                      have z : RgS dA cx (F ++ (((E ++ E1) ++ E2) ++ E3)) (ra, lm, lx) Rg := hRg2.sub (fun z hz => by rw [← List.append_assoc]; exact List.mem_append_left _ hz)
                      rw [hR9, hk8]
                      exact z.set hik rfl ((z.2 k (List.mem_of_getElem? hik)).pt hL9 hy9 (hN.sub (fun b q hq => by rw [← List.append_assoc]; exact List.mem_append_left _ hq) (fun a fs hq => by rw [← List.append_assoc]; exact List.mem_append_left _ hq)))
                    have hcur3 : CurA R9 (some (ci, 2, k.2.2.2.2.2.length)) (some k.1) (some y9.1) := ⟨k8, by rw [hR9]; exact List.getElem?_set_self (List.getElem?_eq_some_iff.mp hik).1, by rw [hk8]; rfl, Or.inr (Or.inr ⟨rfl, y9, by rw [hk8]; exact List.getElem?_concat_length, rfl⟩)⟩
                    have hp3 : pkN (Rg.map kcK, some (ci, ca, cj), many) k2 bd = some (R9.map kcK, some (ci, 2, k.2.2.2.2.2.length), many) := by rw [hun]; unfold undN; rw [if_pos (show k2 = 7 ∨ k2 = 14 by omega), show decide (k2 = 7) = false by rw [hk]; rfl, if_pos hok]; show partN2 _ ci (kcK k) (ptN (k.2.2.2.2.2.map kcP) (numN bd false)) = _; rw [← hnc, pt_miss hf, if_neg (by omega), hR9, ← set_map (y := k8) (z := ((kcK k).1, (kcK k).2.1, (kcK k).2.2.1, k.2.2.2.2.2.map kcP ++ [(nn.2, [])])) (by rw [hk8]; obtain ⟨ua, a4, e⟩ := hy9; rw [e]; unfold kcK kP; dsimp only; rw [List.map_append]; rfl)]; rfl
                    show W p l e R s m args below meth c H locs (cc + 0 + (rC cap bd.length + 1) + 0 + 10 + 3) (cs + 0 + (rS cap bd.length + bd.length) + 0 + (7 * bd.length + 29) + (2 * k.2.2.2.2.2.length + 16)) Q (F0 m 232 ls [.ref y9.1])
                    refine lv_astore (lv' := [(5, .ref y9.1), (9, .ref nn.1), (8, .int (nI 1)), (7, .int (nI 0)), (0, .ref me), (1, .ref ra), (2, .ref ro), (3, .ref o1), (4, .ref k.1), (6, .int (nI many))]) hx hb dX1_readKeys_232 hl (by decide) rfl (fun ls hl => ?_)
                    refine lv_goto (tgt := 310) hx hb dX1_readKeys_234 (by decide) ?_
                    refine lv_goto (tgt := 22) hx hb dX1_readKeys_310 (by decide) ?_
                    exact ih n2 nx k2 (some q0) b2 (gro cap bd.length) g2 bd uh ug lm lx R9 cx (some (ci, 2, k.2.2.2.2.2.length)) (some k.1) (some y9.1) many (fu - 1) (((E ++ E1) ++ E2) ++ E3) _ _ hadv.1 hsr2 hgc.1 hgc.2 hgb2 hgd2 hRg3 hcx hcur3 (hkn.trans (keysN_go hnl hfu0 hpk9 hp3)) (by omega) (by omega) (by (try dsimp only) <;> omega) (by (try dsimp only) <;> omega) (by omega) _ _ h _ (lv_sub hl [4, 5, 6, 7, 8, 0, 9] rfl)
                  · have h : Wd D B s (ringW dA e0 (ra, lm, lx) Rg ++ (([(o1, .inr (11, [.ref rb, .int (nI lw.length), .int (nI n2), .int (nI nx), .int (nI k2), .ref q0, .ref pk])), (ho, .inr (2, [.ref st, .ref fi, .ref bl, .long uh.1, .ref wo])), (st, war dA 5 uh.2.1), (wo, war dA 80 uh.2.2.1), (bl, bar dA 64 uh.2.2.2.2), (dg, bar dA 32 ug), (pk, .inr (1, [.ref b2, .int (nI bd.length)])), (b2, bar dA (gro cap bd.length) g2)] ++ O) ++ (F ++ ((E ++ E1) ++ E2)))) H locs := h.permL (perm_add (fun g f p0 p1 p2 => by (try simp only [p0, p1, p2]) <;> omega))
                    refine call_SX (As := [.ref k.1, .ref nn.1, .ref o1]) (rest := []) (n := 3) C h (cR_partX l D dA B Z hZ ([(o1, .inr (11, [.ref rb, .int (nI lw.length), .int (nI n2), .int (nI nx), .int (nI k2), .ref q0, .ref pk])), (ho, .inr (2, [.ref st, .ref fi, .ref bl, .long uh.1, .ref wo])), (st, war dA 5 uh.2.1), (wo, war dA 80 uh.2.2.1), (bl, bar dA 64 uh.2.2.2.2), (dg, bar dA 32 ug), (pk, .inr (1, [.ref b2, .int (nI bd.length)])), (b2, bar dA (gro cap bd.length) g2)] ++ O) (F ++ ((E ++ E1) ++ E2)) e0 mi (ra, lm, lx) Rg ci k nn o1 rb lw.length n2 nx k2 pk (some q0) hlt hzx hik hN hA9 hP9 (List.mem_append_left _ (List.mem_append_left _ (List.mem_of_getElem? (i := 0) rfl))) hf h16) (lw_S q1271 q1272 q129 q1273) (by decide +kernel) (by decide) (by decide) rfl hl rfl (Nat.le_of_ble_eq_true rfl) dX1_readKeys_229 (by omega) (fun ux ce9 H locs hux h hce9 hcv9 hcl9 => ?_) (fun _ H locs hu h => ?_)
                    · obtain ⟨q8, E8⟩ := ux
                      dsimp only at hux h
                      have hkn9 := hkn.trans (keysN_bad hnl hfu0 hpk9 (by rw [hun]; unfold undN; rw [if_pos (show k2 = 7 ∨ k2 = 14 by omega), show decide (k2 = 7) = false by rw [hk]; rfl, if_pos hok]; show partN2 _ ci (kcK k) (ptN (k.2.2.2.2.2.map kcP) (numN bd false)) = _; rw [← hnc, pt_miss hf, if_pos h16]; rfl))
                      have h : Wd D B s ([(ho, .inr (2, [.ref st, .ref fi, .ref bl, .long uh.1, .ref wo])), (st, war dA 5 uh.2.1), (wo, war dA 80 uh.2.2.1), (bl, bar dA 64 uh.2.2.2.2)] ++ ([(dg, bar dA 32 ug), (pk, .inr (1, [.ref b2, .int (nI bd.length)])), (b2, bar dA (gro cap bd.length) g2)] ++ ([(o1, .inr (11, [.ref rb, .int (nI lw.length), .int (nI n2), .int (nI nx), .int (nI k2), .ref q0, .ref pk]))] ++ (ringW dA e0 (ra, lm, lx) Rg ++ (O ++ (F ++ (((E ++ E1) ++ E2) ++ E8))))))) H locs := h.permL (perm_add (fun g f p0 p1 p2 => by (try simp only [p0, p1, p2]) <;> omega))
                      have h : Wd D B s (h4C dA ho st fi bl wo uh ++ ([(dg, bar dA 32 ug), (pk, .inr (1, [.ref b2, .int (nI bd.length)])), (b2, bar dA (gro cap bd.length) g2)] ++ ([(o1, .inr (11, [.ref rb, .int (nI lw.length), .int (nI n2), .int (nI nx), .int (nI k2), .ref q0, .ref pk]))] ++ (ringW dA e0 (ra, lm, lx) Rg ++ (O ++ (F ++ (((E ++ E1) ++ E2) ++ E8))))))) H locs := h
                      have hft : FaultIn ([(o1, .inr (11, [.ref rb, .int (nI lw.length), .int (nI n2), .int (nI nx), .int (nI k2), .ref q0, .ref pk]))] ++ (ringW dA e0 (ra, lm, lx) Rg ++ (O ++ (F ++ (((E ++ E1) ++ E2) ++ E8))))) q8 (tellN kr lw.length) := by
                        unfold tellN
                        rw [hkn9, if_neg (m1_ne (by omega))]
                        exact hux.up (fun z hz => List.mem_append_right _ (List.mem_append_right _ (List.mem_append_right _ (List.mem_append_right _ (List.mem_append_right _ hz)))))
                      have hk0 : kr.1 = 0 → kr.2.2.2 = 0 := fun q9 => by rw [hkn9] at q9; exact absurd q9 (m1_ne (by omega))
                      subst hQ
                      exact thr_out C hex hlocks h (q8, uh, ug, (b2, gro cap bd.length, g2, bd), [(o1, .inr (11, [.ref rb, .int (nI lw.length), .int (nI n2), .int (nI nx), .int (nI k2), .ref q0, .ref pk]))] ++ (ringW dA e0 (ra, lm, lx) Rg ++ (O ++ (F ++ (((E ++ E1) ++ E2) ++ E8))))) rfl rfl (⟨⟨hgd2, hgb2, hsr2, hgc.1, hgc.2⟩, hft, fun x9 hx9 => List.mem_append_right _ (List.mem_append_right _ (memOE hx9)), hk0⟩) rfl hce9 hcv9 hcl9 (by omega) (by omega)
                    exact hu.elim
                · have h : Wd D B s (ringW dA e0 (ra, lm, lx) Rg ++ (([(o1, .inr (11, [.ref rb, .int (nI lw.length), .int (nI n2), .int (nI nx), .int (nI k2), .ref q0, .ref pk])), (ho, .inr (2, [.ref st, .ref fi, .ref bl, .long uh.1, .ref wo])), (st, war dA 5 uh.2.1), (wo, war dA 80 uh.2.2.1), (bl, bar dA 64 uh.2.2.2.2), (dg, bar dA 32 ug), (pk, .inr (1, [.ref b2, .int (nI bd.length)])), (b2, bar dA (gro cap bd.length) g2)] ++ O) ++ (F ++ ((E ++ E1) ++ E2)))) H locs := h.permL (perm_add (fun g f p0 p1 p2 => by (try simp only [p0, p1, p2]) <;> omega))
                  refine call_S (As := [.ref k.1, .ref nn.1, .ref o1]) (rest := []) (n := 3) C h (cR_partH l D dA B Z hZ ([(o1, .inr (11, [.ref rb, .int (nI lw.length), .int (nI n2), .int (nI nx), .int (nI k2), .ref q0, .ref pk])), (ho, .inr (2, [.ref st, .ref fi, .ref bl, .long uh.1, .ref wo])), (st, war dA 5 uh.2.1), (wo, war dA 80 uh.2.2.1), (bl, bar dA 64 uh.2.2.2.2), (dg, bar dA 32 ug), (pk, .inr (1, [.ref b2, .int (nI bd.length)])), (b2, bar dA (gro cap bd.length) g2)] ++ O) (F ++ ((E ++ E1) ++ E2)) e0 mi (ra, lm, lx) Rg ci j0 k nn o1 y0 hik hj0 hN hA9 hP9 hf) (lw_S q1271 q1272 q129 q1273) (by decide +kernel) (by decide) (by decide) rfl hl rfl (Nat.le_of_ble_eq_true rfl) dX1_readKeys_229 (by omega) (fun u8 H locs hu8 h => ?_)
                  obtain ⟨n9, E3⟩ := u8
                  obtain ⟨e91, hn9⟩ := hu8
                  dsimp only at e91 hn9 h
                  obtain ⟨k8, hk8⟩ : ∃ z, z = kP k k.2.2.2.2.1 (k.2.2.2.2.2.set j0 (y0.1, n9, y0.2.2)) := ⟨_, rfl⟩
                  rw [← hk8] at h
                  obtain ⟨R9, hR9⟩ : ∃ z, z = Rg.set ci k8 := ⟨_, rfl⟩
                  rw [← hR9] at h
                  have h : Wd D B s ([(o1, .inr (11, [.ref rb, .int (nI lw.length), .int (nI n2), .int (nI nx), .int (nI k2), .ref q0, .ref pk])), (ho, .inr (2, [.ref st, .ref fi, .ref bl, .long uh.1, .ref wo])), (st, war dA 5 uh.2.1), (wo, war dA 80 uh.2.2.1), (bl, bar dA 64 uh.2.2.2.2), (dg, bar dA 32 ug), (pk, .inr (1, [.ref b2, .int (nI bd.length)])), (b2, bar dA (gro cap bd.length) g2)] ++ (ringW dA e0 (ra, lm, lx) R9 ++ (O ++ (F ++ (((E ++ E1) ++ E2) ++ E3))))) H locs := h.permL (perm_add (fun g f p0 p1 p2 => by (try simp only [p0, p1, p2]) <;> omega))
                  have hn8 : NumIn dA (F ++ (((E ++ E1) ++ E2) ++ E3)) n9 := by have z := hn9; rw [List.append_assoc] at z; exact z
                  have hRg3 : RgS dA cx (F ++ (((E ++ E1) ++ E2) ++ E3)) (ra, lm, lx) R9 := by
                    have z : RgS dA cx (F ++ (((E ++ E1) ++ E2) ++ E3)) (ra, lm, lx) Rg := hRg2.sub (fun z hz => by rw [← List.append_assoc]; exact List.mem_append_left _ hz)
                    rw [hR9, hk8]
                    exact z.set hik rfl ((z.2 k (List.mem_of_getElem? hik)).ptH hj0 hn8 (by rw [e91]))
                  have hcur3 : CurA R9 (some (ci, 2, j0)) (some k.1) (some y0.1) := ⟨k8, by rw [hR9]; exact List.getElem?_set_self (List.getElem?_eq_some_iff.mp hik).1, by rw [hk8]; rfl, Or.inr (Or.inr ⟨rfl, (y0.1, n9, y0.2.2), by rw [hk8]; exact List.getElem?_set_self (List.getElem?_eq_some_iff.mp hj0).1, rfl⟩)⟩
                  have hp3 : pkN (Rg.map kcK, some (ci, ca, cj), many) k2 bd = some (R9.map kcK, some (ci, 2, j0), many) := by rw [hun]; unfold undN; rw [if_pos (show k2 = 7 ∨ k2 = 14 by omega), show decide (k2 = 7) = false by rw [hk]; rfl, if_pos hok]; show partN2 _ ci (kcK k) (ptN (k.2.2.2.2.2.map kcP) (numN bd false)) = _; rw [← hnc, pt_hit hj0 hno hyes e91, hR9, ← set_map (y := k8) (z := ((kcK k).1, (kcK k).2.1, (kcK k).2.2.1, (k.2.2.2.2.2.set j0 (y0.1, n9, y0.2.2)).map kcP)) (by rw [hk8]; rfl)]; rfl
                  refine lv_astore (lv' := [(5, .ref y0.1), (9, .ref nn.1), (8, .int (nI 1)), (7, .int (nI 0)), (0, .ref me), (1, .ref ra), (2, .ref ro), (3, .ref o1), (4, .ref k.1), (6, .int (nI many))]) hx hb dX1_readKeys_232 hl (by decide) rfl (fun ls hl => ?_)
                  refine lv_goto (tgt := 310) hx hb dX1_readKeys_234 (by decide) ?_
                  refine lv_goto (tgt := 22) hx hb dX1_readKeys_310 (by decide) ?_
                  exact ih n2 nx k2 (some q0) b2 (gro cap bd.length) g2 bd uh ug lm lx R9 cx (some (ci, 2, j0)) (some k.1) (some y0.1) many (fu - 1) (((E ++ E1) ++ E2) ++ E3) _ _ hadv.1 hsr2 hgc.1 hgc.2 hgb2 hgd2 hRg3 hcx hcur3 (hkn.trans (keysN_go hnl hfu0 hpk9 hp3)) (by omega) (by omega) (by (try dsimp only) <;> omega) (by (try dsimp only) <;> omega) (by omega) _ _ h _ (lv_sub hl [4, 5, 6, 7, 8, 0, 9] rfl)
              · have hok : keyOk bd false = false := by cases q9 : keyOk bd false with | true => exact absurd q9 hok | false => rfl
                rw [hno2 hok]
                show W p l e R s m args below meth c H locs (cc + 0 + (rC cap bd.length + 1) + 0 + 10) (cs + 0 + (rS cap bd.length + bd.length) + 0 + (7 * bd.length + 29)) Q (F0 m 169 ls [.null])
                refine lv_goto (tgt := 173) hx hb dX1_readKeys_169 (by decide) ?_
                refine lv_astoreN (lv' := [(9, .null), (8, .int (nI 1)), (7, .int (nI 0)), (0, .ref me), (1, .ref ra), (2, .ref ro), (3, .ref o1), (4, .ref k.1), (5, va_rf lo), (6, .int (nI many))]) hx hb dX1_readKeys_173 hl (by decide) rfl (fun ls hl => ?_)
                refine lv_iload hx hb dX1_readKeys_175 (lv_at hl 2 rfl) ?_
                refine n_if_ne (tgt := 185) hx hb (by omega) dX1_readKeys_177 (by decide) (fun c177 => by exfalso; omega) (fun c177 => ?_)
                refine lv_iload hx hb dX1_readKeys_180 (lv_at hl 1 rfl) ?_
                refine n_if_eq (tgt := 195) hx hb (by omega) dX1_readKeys_182 (by decide) (fun c182 => by exfalso; omega) (fun c182 => ?_)
                refine lv_aloadN hx hb dX1_readKeys_185 (lv_at hl 0 rfl) ?_
                refine lv_ifnonnullN hx hb dX1_readKeys_187 ?_
                refine lv_aload_n hx hb dX1_readKeys_190 rfl (lv_at hl 6 rfl) ?_
                refine call_VR (As := []) (rest := []) (n := 0) C h (c14_fault l D dA B Z hZ _ o1 rb lw.length n2 nx k2 pk (some q0) hlt hzx (List.mem_of_getElem? (i := 0) rfl)) (lw_V q1088 q1064 q1065 q162 q1066) (by decide +kernel) (o_recv C h (RC := RX14) (T := TX14) (N := 7) (List.mem_of_getElem? (i := 0) rfl) rfl) (by decide) (by decide) rfl hl rfl (Nat.le_of_ble_eq_true rfl) dX1_readKeys_191 (by omega) (fun u8 H locs _ h => ?_)
                obtain ⟨q9, x9⟩ := u8
                have h : Wd D B s ([(q9, .inr (10, fts x9 (-1 - nI nx))), (o1, .inr (11, [.ref rb, .int (nI lw.length), .int (nI n2), .int (nI nx), .int (nI k2), .ref q0, .ref pk])), (ho, .inr (2, [.ref st, .ref fi, .ref bl, .long uh.1, .ref wo])), (st, war dA 5 uh.2.1), (wo, war dA 80 uh.2.2.1), (bl, bar dA 64 uh.2.2.2.2), (dg, bar dA 32 ug), (pk, .inr (1, [.ref b2, .int (nI bd.length)])), (b2, bar dA (gro cap bd.length) g2)] ++ (ringW dA e0 (ra, lm, lx) Rg ++ (O ++ (F ++ ((E ++ E1) ++ E2))))) H locs := h
                subst hQ
                have hkn9 := hkn.trans (keysN_bad hnl hfu0 hpk9 (by rw [hun]; unfold undN; rw [if_pos (by omega), if_neg]; rw [show decide (k2 = 7) = false by rw [hk]; rfl, hok]; decide))
                have h : Wd D B s ([(ho, .inr (2, [.ref st, .ref fi, .ref bl, .long uh.1, .ref wo])), (st, war dA 5 uh.2.1), (wo, war dA 80 uh.2.2.1), (bl, bar dA 64 uh.2.2.2.2)] ++ ([(dg, bar dA 32 ug), (pk, .inr (1, [.ref b2, .int (nI bd.length)])), (b2, bar dA (gro cap bd.length) g2)] ++ ([(q9, .inr (10, fts x9 (-1 - nI nx)))] ++ ([(o1, .inr (11, [.ref rb, .int (nI lw.length), .int (nI n2), .int (nI nx), .int (nI k2), .ref q0, .ref pk]))] ++ (ringW dA e0 (ra, lm, lx) Rg ++ (O ++ (F ++ ((E ++ E1) ++ E2)))))))) H locs := h.permL (perm_add (fun g f p0 p1 p2 => by (try simp only [p0, p1, p2]) <;> omega))
                have h : Wd D B s (h4C dA ho st fi bl wo uh ++ ([(dg, bar dA 32 ug), (pk, .inr (1, [.ref b2, .int (nI bd.length)])), (b2, bar dA (gro cap bd.length) g2)] ++ ([(q9, .inr (10, fts x9 (-1 - nI nx)))] ++ ([(o1, .inr (11, [.ref rb, .int (nI lw.length), .int (nI n2), .int (nI nx), .int (nI k2), .ref q0, .ref pk]))] ++ (ringW dA e0 (ra, lm, lx) Rg ++ (O ++ (F ++ ((E ++ E1) ++ E2)))))))) H locs := h
                have hft : FaultIn ([(q9, .inr (10, fts x9 (-1 - nI nx)))] ++ ([(o1, .inr (11, [.ref rb, .int (nI lw.length), .int (nI n2), .int (nI nx), .int (nI k2), .ref q0, .ref pk]))] ++ (ringW dA e0 (ra, lm, lx) Rg ++ (O ++ (F ++ ((E ++ E1) ++ E2)))))) q9 (tellN kr lw.length) := by
                  unfold tellN
                  rw [hkn9, if_neg (m1_ne (by omega))]
                  exact ⟨x9, List.mem_append_left _ List.mem_cons_self⟩
                have hk0 : kr.1 = 0 → kr.2.2.2 = 0 := fun q9 => by rw [hkn9] at q9; exact absurd q9 (m1_ne (by omega))
                exact x_athrow C hex hlocks h (List.mem_append_right _ (List.mem_append_right _ (List.mem_append_left _ List.mem_cons_self))) rfl (q9, uh, ug, (b2, gro cap bd.length, g2, bd), [(q9, .inr (10, fts x9 (-1 - nI nx)))] ++ ([(o1, .inr (11, [.ref rb, .int (nI lw.length), .int (nI n2), .int (nI nx), .int (nI k2), .ref q0, .ref pk]))] ++ (ringW dA e0 (ra, lm, lx) Rg ++ (O ++ (F ++ ((E ++ E1) ++ E2)))))) rfl rfl (⟨⟨hgd2, hgb2, hsr2, hgc.1, hgc.2⟩, hft, fun x9 hx9 => List.mem_append_right _ (List.mem_append_right _ (List.mem_append_right _ (memOE hx9))), hk0⟩) rfl (by omega) (by omega) dX1_readKeys_194
          · have hkp : ¬ (k2 = 10 ∨ k2 = 12 ∨ k2 = 17 ∨ 40 ≤ k2) := by omega
            rw [if_neg (show ¬ k2 = 11 by omega)] at hbo2
            obtain ⟨q0, e8, hq8, hfr8⟩ := hbo2
            have hq1 := mem_new hp1 hq8 hfr8
            rw [e8] at h
            have hq2 : (q0, bal dA bd) ∈ F ++ (E ++ E1) := List.mem_append_right _ (List.mem_append_right _ hq1)
            have h : Wd D B s ([(o1, .inr (11, [.ref rb, .int (nI lw.length), .int (nI n2), .int (nI nx), .int (nI k2), .ref q0, .ref pk])), (ho, .inr (2, [.ref st, .ref fi, .ref bl, .long u.1, .ref wo])), (st, war dA 5 u.2.1), (wo, war dA 80 u.2.2.1), (bl, bar dA 64 u.2.2.2.2), (dg, bar dA 32 gd), (pk, .inr (1, [.ref b2, .int (nI bd.length)])), (b2, bar dA (gro cap bd.length) g2)] ++ (ringW dA e0 (ra, lm, lx) Rg ++ (O ++ (F ++ (E ++ E1))))) H locs := h
            have hk56 : ¬ (k2 = 5 ∨ k2 = 6) := by omega
            rcases cu with _ | c8
            · obtain ⟨hko, hlo⟩ := hcur
              rw [hko, hlo] at hl
              have hl : lv_has ls 11 [(0, .ref me), (1, .ref ra), (2, .ref ro), (3, .ref o1), (4, .null), (5, .null), (6, .int (nI many))] := hl
              refine lv_aload_n hx hb dX1_readKeys_33 rfl (lv_at hl 3 rfl) ?_
              refine call_VR (As := []) (rest := []) (n := 0) C h (c14_isPassed l D dA B Z hZ ([(ho, .inr (2, [.ref st, .ref fi, .ref bl, .long u.1, .ref wo])), (st, war dA 5 u.2.1), (wo, war dA 80 u.2.2.1), (bl, bar dA 64 u.2.2.2.2), (dg, bar dA 32 gd), (pk, .inr (1, [.ref b2, .int (nI bd.length)])), (b2, bar dA (gro cap bd.length) g2)] ++ (ringW dA e0 (ra, lm, lx) Rg ++ (O ++ (F ++ (E ++ E1))))) o1 rb pk lw.length n2 nx k2 (some q0) (by omega)) (lw_V q1084 q1085 q1086 q162 q1087) (by decide +kernel) (o_recv C h (RC := RX14) (T := TX14) (N := 7) (List.mem_of_getElem? (i := 0) rfl) rfl) (by decide) (by decide) rfl hl rfl (Nat.le_of_ble_eq_true rfl) dX1_readKeys_34 (by omega) (fun _ H locs _ h => ?_)
              have h : Wd D B s ([(o1, .inr (11, [.ref rb, .int (nI lw.length), .int (nI n2), .int (nI nx), .int (nI k2), .ref q0, .ref pk])), (ho, .inr (2, [.ref st, .ref fi, .ref bl, .long u.1, .ref wo])), (st, war dA 5 u.2.1), (wo, war dA 80 u.2.2.1), (bl, bar dA 64 u.2.2.2.2), (dg, bar dA 32 gd), (pk, .inr (1, [.ref b2, .int (nI bd.length)])), (b2, bar dA (gro cap bd.length) g2)] ++ (ringW dA e0 (ra, lm, lx) Rg ++ (O ++ (F ++ (E ++ E1))))) H locs := h
              have h : Wd D B s ([(o1, .inr (11, [.ref rb, .int (nI lw.length), .int (nI n2), .int (nI nx), .int (nI k2), .ref q0, .ref pk])), (ho, .inr (2, [.ref st, .ref fi, .ref bl, .long u.1, .ref wo])), (st, war dA 5 u.2.1), (wo, war dA 80 u.2.2.1), (bl, bar dA 64 u.2.2.2.2), (dg, bar dA 32 gd), (pk, .inr (1, [.ref b2, .int (nI bd.length)])), (b2, bar dA (gro cap bd.length) g2)] ++ (ringW dA e0 (ra, lm, lx) Rg ++ (O ++ (F ++ (E ++ E1))))) H locs := h.permL (perm_add (fun g f p0 p1 p2 => by (try simp only [p0, p1, p2]) <;> omega))
              refine z_if_eq (tgt := 43) hx hb dX1_readKeys_37 (by decide) (fun c37 => ?_) (fun c37 => by exfalso; exact hkp (of_decide_eq_true c37))
              refine lv_aload_n hx hb dX1_readKeys_43 rfl (lv_at hl 3 rfl) ?_
              refine o_get C h (RC := RX14) (T := TX14) (N := 7) (List.mem_of_getElem? (i := 0) rfl) rfl in_X14 4 (by decide) q1031 rfl (v := .int (nI k2)) rfl dX1_readKeys_44 ?_
              refine lv_bipush (v := nI 6) hx hb dX1_readKeys_47 (by decide) ?_
              refine n_icmp_eq (tgt := 60) hx hb (by omega) (by omega) dX1_readKeys_49 (by decide) (fun c49 => by exfalso; omega) (fun c49 => ?_)
              refine lv_aload_n hx hb dX1_readKeys_52 rfl (lv_at hl 3 rfl) ?_
              refine o_get C h (RC := RX14) (T := TX14) (N := 7) (List.mem_of_getElem? (i := 0) rfl) rfl in_X14 4 (by decide) q1031 rfl (v := .int (nI k2)) rfl dX1_readKeys_53 ?_
              refine lv_iconst (v := nI 5) hx hb dX1_readKeys_56 (by decide) ?_
              refine n_icmp_ne (tgt := 64) hx hb (by omega) (by omega) dX1_readKeys_57 (by decide) (fun c57 => ?_) (fun c57 => by exfalso; omega)
              refine lv_iconst (v := nI 0) hx hb dX1_readKeys_64 (by decide) ?_
              refine lv_istore (lv' := [(7, .int (nI 0)), (0, .ref me), (1, .ref ra), (2, .ref ro), (3, .ref o1), (4, .null), (5, .null), (6, .int (nI many))]) hx hb dX1_readKeys_65 hl (by decide) rfl (fun ls hl => ?_)
              refine lv_aload_n hx hb dX1_readKeys_67 rfl (lv_at hl 4 rfl) ?_
              refine o_get C h (RC := RX14) (T := TX14) (N := 7) (List.mem_of_getElem? (i := 0) rfl) rfl in_X14 4 (by decide) q1031 rfl (v := .int (nI k2)) rfl dX1_readKeys_68 ?_
              refine lv_bipush (v := nI 14) hx hb dX1_readKeys_71 (by decide) ?_
              refine n_icmp_eq (tgt := 85) hx hb (by omega) (by omega) dX1_readKeys_73 (by decide) (fun c73 => by exfalso; omega) (fun c73 => ?_)
              refine lv_aload_n hx hb dX1_readKeys_76 rfl (lv_at hl 4 rfl) ?_
              refine o_get C h (RC := RX14) (T := TX14) (N := 7) (List.mem_of_getElem? (i := 0) rfl) rfl in_X14 4 (by decide) q1031 rfl (v := .int (nI k2)) rfl dX1_readKeys_77 ?_
              refine lv_bipush (v := nI 7) hx hb dX1_readKeys_80 (by decide) ?_
              refine n_icmp_ne (tgt := 89) hx hb (by omega) (by omega) dX1_readKeys_82 (by decide) (fun c82 => ?_) (fun c82 => by exfalso; omega)
              refine lv_iconst (v := nI 0) hx hb dX1_readKeys_89 (by decide) ?_
              refine lv_istore (lv' := [(8, .int (nI 0)), (7, .int (nI 0)), (0, .ref me), (1, .ref ra), (2, .ref ro), (3, .ref o1), (4, .null), (5, .null), (6, .int (nI many))]) hx hb dX1_readKeys_90 hl (by decide) rfl (fun ls hl => ?_)
              refine lv_iload hx hb dX1_readKeys_92 (lv_at hl 1 rfl) ?_
              refine n_if_ne (tgt := 129) hx hb (by omega) dX1_readKeys_94 (by decide) (fun c94 => by exfalso; omega) (fun c94 => ?_)
              refine lv_aloadN hx hb dX1_readKeys_97 (lv_at hl 6 rfl) ?_
              refine lv_ifnullN (tgt := 124) hx hb dX1_readKeys_99 (by decide) ?_
              refine lv_aload_n hx hb dX1_readKeys_124 rfl (lv_at hl 5 rfl) ?_
              refine call_VR (As := []) (rest := []) (n := 0) C h (c14_fault l D dA B Z hZ _ o1 rb lw.length n2 nx k2 pk (some q0) hlt hzx (List.mem_of_getElem? (i := 0) rfl)) (lw_V q1088 q1064 q1065 q162 q1066) (by decide +kernel) (o_recv C h (RC := RX14) (T := TX14) (N := 7) (List.mem_of_getElem? (i := 0) rfl) rfl) (by decide) (by decide) rfl hl rfl (Nat.le_of_ble_eq_true rfl) dX1_readKeys_125 (by omega) (fun u8 H locs _ h => ?_)
              obtain ⟨q9, x9⟩ := u8
              have h : Wd D B s ([(q9, .inr (10, fts x9 (-1 - nI nx))), (o1, .inr (11, [.ref rb, .int (nI lw.length), .int (nI n2), .int (nI nx), .int (nI k2), .ref q0, .ref pk])), (ho, .inr (2, [.ref st, .ref fi, .ref bl, .long u.1, .ref wo])), (st, war dA 5 u.2.1), (wo, war dA 80 u.2.2.1), (bl, bar dA 64 u.2.2.2.2), (dg, bar dA 32 gd), (pk, .inr (1, [.ref b2, .int (nI bd.length)])), (b2, bar dA (gro cap bd.length) g2)] ++ (ringW dA e0 (ra, lm, lx) Rg ++ (O ++ (F ++ (E ++ E1))))) H locs := h
              subst hQ
              have hkn9 := hkn.trans (keysN_bad hnl hfu0 hpk9 (pkN_no hkp hk56 rfl))
              have h : Wd D B s ([(ho, .inr (2, [.ref st, .ref fi, .ref bl, .long u.1, .ref wo])), (st, war dA 5 u.2.1), (wo, war dA 80 u.2.2.1), (bl, bar dA 64 u.2.2.2.2)] ++ ([(dg, bar dA 32 gd), (pk, .inr (1, [.ref b2, .int (nI bd.length)])), (b2, bar dA (gro cap bd.length) g2)] ++ ([(q9, .inr (10, fts x9 (-1 - nI nx)))] ++ ([(o1, .inr (11, [.ref rb, .int (nI lw.length), .int (nI n2), .int (nI nx), .int (nI k2), .ref q0, .ref pk]))] ++ (ringW dA e0 (ra, lm, lx) Rg ++ (O ++ (F ++ (E ++ E1)))))))) H locs := h.permL (perm_add (fun g f p0 p1 p2 => by (try simp only [p0, p1, p2]) <;> omega))
              have h : Wd D B s (h4C dA ho st fi bl wo u ++ ([(dg, bar dA 32 gd), (pk, .inr (1, [.ref b2, .int (nI bd.length)])), (b2, bar dA (gro cap bd.length) g2)] ++ ([(q9, .inr (10, fts x9 (-1 - nI nx)))] ++ ([(o1, .inr (11, [.ref rb, .int (nI lw.length), .int (nI n2), .int (nI nx), .int (nI k2), .ref q0, .ref pk]))] ++ (ringW dA e0 (ra, lm, lx) Rg ++ (O ++ (F ++ (E ++ E1)))))))) H locs := h
              have hft : FaultIn ([(q9, .inr (10, fts x9 (-1 - nI nx)))] ++ ([(o1, .inr (11, [.ref rb, .int (nI lw.length), .int (nI n2), .int (nI nx), .int (nI k2), .ref q0, .ref pk]))] ++ (ringW dA e0 (ra, lm, lx) Rg ++ (O ++ (F ++ (E ++ E1)))))) q9 (tellN kr lw.length) := by
                unfold tellN
                rw [hkn9, if_neg (m1_ne (by omega))]
                exact ⟨x9, List.mem_append_left _ List.mem_cons_self⟩
              have hk0 : kr.1 = 0 → kr.2.2.2 = 0 := fun q9 => by rw [hkn9] at q9; exact absurd q9 (m1_ne (by omega))
              exact x_athrow C hex hlocks h (List.mem_append_right _ (List.mem_append_right _ (List.mem_append_left _ List.mem_cons_self))) rfl (q9, u, gd, (b2, gro cap bd.length, g2, bd), [(q9, .inr (10, fts x9 (-1 - nI nx)))] ++ ([(o1, .inr (11, [.ref rb, .int (nI lw.length), .int (nI n2), .int (nI nx), .int (nI k2), .ref q0, .ref pk]))] ++ (ringW dA e0 (ra, lm, lx) Rg ++ (O ++ (F ++ (E ++ E1)))))) rfl rfl (⟨⟨hgd, hgb, hsr2, hgc.1, hgc.2⟩, hft, fun x9 hx9 => List.mem_append_right _ (List.mem_append_right _ (List.mem_append_right _ (memOE hx9))), hk0⟩) rfl (by omega) (by omega) dX1_readKeys_128
            · obtain ⟨ci, ca, cj⟩ := c8
              obtain ⟨k, hik, hko, hlt9⟩ := hcur
              dsimp only at hik hlt9
              rw [hko] at hl
              have hl : lv_has ls 11 [(0, .ref me), (1, .ref ra), (2, .ref ro), (3, .ref o1), (4, .ref k.1), (5, va_rf lo), (6, .int (nI many))] := hl
              have hkS := hRg1.2 k (List.mem_of_getElem? hik)
              have hun := pkN_un (m := many) (bd := bd) (a := ca) (j := cj) hkp hk56 hik
              refine lv_aload_n hx hb dX1_readKeys_33 rfl (lv_at hl 3 rfl) ?_
              refine call_VR (As := []) (rest := []) (n := 0) C h (c14_isPassed l D dA B Z hZ ([(ho, .inr (2, [.ref st, .ref fi, .ref bl, .long u.1, .ref wo])), (st, war dA 5 u.2.1), (wo, war dA 80 u.2.2.1), (bl, bar dA 64 u.2.2.2.2), (dg, bar dA 32 gd), (pk, .inr (1, [.ref b2, .int (nI bd.length)])), (b2, bar dA (gro cap bd.length) g2)] ++ (ringW dA e0 (ra, lm, lx) Rg ++ (O ++ (F ++ (E ++ E1))))) o1 rb pk lw.length n2 nx k2 (some q0) (by omega)) (lw_V q1084 q1085 q1086 q162 q1087) (by decide +kernel) (o_recv C h (RC := RX14) (T := TX14) (N := 7) (List.mem_of_getElem? (i := 0) rfl) rfl) (by decide) (by decide) rfl hl rfl (Nat.le_of_ble_eq_true rfl) dX1_readKeys_34 (by omega) (fun _ H locs _ h => ?_)
              have h : Wd D B s ([(o1, .inr (11, [.ref rb, .int (nI lw.length), .int (nI n2), .int (nI nx), .int (nI k2), .ref q0, .ref pk])), (ho, .inr (2, [.ref st, .ref fi, .ref bl, .long u.1, .ref wo])), (st, war dA 5 u.2.1), (wo, war dA 80 u.2.2.1), (bl, bar dA 64 u.2.2.2.2), (dg, bar dA 32 gd), (pk, .inr (1, [.ref b2, .int (nI bd.length)])), (b2, bar dA (gro cap bd.length) g2)] ++ (ringW dA e0 (ra, lm, lx) Rg ++ (O ++ (F ++ (E ++ E1))))) H locs := h
              have h : Wd D B s ([(o1, .inr (11, [.ref rb, .int (nI lw.length), .int (nI n2), .int (nI nx), .int (nI k2), .ref q0, .ref pk])), (ho, .inr (2, [.ref st, .ref fi, .ref bl, .long u.1, .ref wo])), (st, war dA 5 u.2.1), (wo, war dA 80 u.2.2.1), (bl, bar dA 64 u.2.2.2.2), (dg, bar dA 32 gd), (pk, .inr (1, [.ref b2, .int (nI bd.length)])), (b2, bar dA (gro cap bd.length) g2)] ++ (ringW dA e0 (ra, lm, lx) Rg ++ (O ++ (F ++ (E ++ E1))))) H locs := h.permL (perm_add (fun g f p0 p1 p2 => by (try simp only [p0, p1, p2]) <;> omega))
              refine z_if_eq (tgt := 43) hx hb dX1_readKeys_37 (by decide) (fun c37 => ?_) (fun c37 => by exfalso; exact hkp (of_decide_eq_true c37))
              refine lv_aload_n hx hb dX1_readKeys_43 rfl (lv_at hl 3 rfl) ?_
              refine o_get C h (RC := RX14) (T := TX14) (N := 7) (List.mem_of_getElem? (i := 0) rfl) rfl in_X14 4 (by decide) q1031 rfl (v := .int (nI k2)) rfl dX1_readKeys_44 ?_
              refine lv_bipush (v := nI 6) hx hb dX1_readKeys_47 (by decide) ?_
              refine n_icmp_eq (tgt := 60) hx hb (by omega) (by omega) dX1_readKeys_49 (by decide) (fun c49 => by exfalso; omega) (fun c49 => ?_)
              refine lv_aload_n hx hb dX1_readKeys_52 rfl (lv_at hl 3 rfl) ?_
              refine o_get C h (RC := RX14) (T := TX14) (N := 7) (List.mem_of_getElem? (i := 0) rfl) rfl in_X14 4 (by decide) q1031 rfl (v := .int (nI k2)) rfl dX1_readKeys_53 ?_
              refine lv_iconst (v := nI 5) hx hb dX1_readKeys_56 (by decide) ?_
              refine n_icmp_ne (tgt := 64) hx hb (by omega) (by omega) dX1_readKeys_57 (by decide) (fun c57 => ?_) (fun c57 => by exfalso; omega)
              refine lv_iconst (v := nI 0) hx hb dX1_readKeys_64 (by decide) ?_
              refine lv_istore (lv' := [(7, .int (nI 0)), (0, .ref me), (1, .ref ra), (2, .ref ro), (3, .ref o1), (4, .ref k.1), (5, va_rf lo), (6, .int (nI many))]) hx hb dX1_readKeys_65 hl (by decide) rfl (fun ls hl => ?_)
              refine lv_aload_n hx hb dX1_readKeys_67 rfl (lv_at hl 4 rfl) ?_
              refine o_get C h (RC := RX14) (T := TX14) (N := 7) (List.mem_of_getElem? (i := 0) rfl) rfl in_X14 4 (by decide) q1031 rfl (v := .int (nI k2)) rfl dX1_readKeys_68 ?_
              refine lv_bipush (v := nI 14) hx hb dX1_readKeys_71 (by decide) ?_
              refine n_icmp_eq (tgt := 85) hx hb (by omega) (by omega) dX1_readKeys_73 (by decide) (fun c73 => by exfalso; omega) (fun c73 => ?_)
              refine lv_aload_n hx hb dX1_readKeys_76 rfl (lv_at hl 4 rfl) ?_
              refine o_get C h (RC := RX14) (T := TX14) (N := 7) (List.mem_of_getElem? (i := 0) rfl) rfl in_X14 4 (by decide) q1031 rfl (v := .int (nI k2)) rfl dX1_readKeys_77 ?_
              refine lv_bipush (v := nI 7) hx hb dX1_readKeys_80 (by decide) ?_
              refine n_icmp_ne (tgt := 89) hx hb (by omega) (by omega) dX1_readKeys_82 (by decide) (fun c82 => ?_) (fun c82 => by exfalso; omega)
              refine lv_iconst (v := nI 0) hx hb dX1_readKeys_89 (by decide) ?_
              refine lv_istore (lv' := [(8, .int (nI 0)), (7, .int (nI 0)), (0, .ref me), (1, .ref ra), (2, .ref ro), (3, .ref o1), (4, .ref k.1), (5, va_rf lo), (6, .int (nI many))]) hx hb dX1_readKeys_90 hl (by decide) rfl (fun ls hl => ?_)
              refine lv_iload hx hb dX1_readKeys_92 (lv_at hl 1 rfl) ?_
              refine n_if_ne (tgt := 129) hx hb (by omega) dX1_readKeys_94 (by decide) (fun c94 => by exfalso; omega) (fun c94 => ?_)
              refine lv_aload hx hb dX1_readKeys_97 (lv_at hl 6 rfl) ?_
              refine lv_ifnull hx hb dX1_readKeys_99 ?_
              refine lv_iload hx hb dX1_readKeys_102 (lv_at hl 0 rfl) ?_
              refine n_if_ne (tgt := 129) hx hb (by omega) dX1_readKeys_104 (by decide) (fun c104 => by exfalso; omega) (fun c104 => ?_)
              refine lv_aload_n hx hb dX1_readKeys_107 rfl (lv_at hl 5 rfl) ?_
              refine o_get C h (RC := RX14) (T := TX14) (N := 7) (List.mem_of_getElem? (i := 0) rfl) rfl in_X14 4 (by decide) q1031 rfl (v := .int (nI k2)) rfl dX1_readKeys_108 ?_
              refine lv_iconst (v := nI 2) hx hb dX1_readKeys_111 (by decide) ?_
              refine n_icmp_eq (tgt := 129) hx hb (by omega) (by omega) dX1_readKeys_112 (by decide) (fun c112 => by exfalso; omega) (fun c112 => ?_)
              refine lv_aload_n hx hb dX1_readKeys_115 rfl (lv_at hl 5 rfl) ?_
              refine o_get C h (RC := RX14) (T := TX14) (N := 7) (List.mem_of_getElem? (i := 0) rfl) rfl in_X14 4 (by decide) q1031 rfl (v := .int (nI k2)) rfl dX1_readKeys_116 ?_
              refine lv_bipush (v := nI 13) hx hb dX1_readKeys_119 (by decide) ?_
              refine n_icmp_eq (tgt := 129) hx hb (by omega) (by omega) dX1_readKeys_121 (by decide) (fun c121 => ?_) (fun c121 => by exfalso; omega)
              refine lv_iload hx hb dX1_readKeys_129 (lv_at hl 1 rfl) ?_
              refine n_if_ne (tgt := 139) hx hb (by omega) dX1_readKeys_131 (by decide) (fun c131 => by exfalso; omega) (fun c131 => ?_)
              refine lv_iload hx hb dX1_readKeys_134 (lv_at hl 0 rfl) ?_
              refine n_if_eq (tgt := 172) hx hb (by omega) dX1_readKeys_136 (by decide) (fun c136 => ?_) (fun c136 => by exfalso; omega)
              refine lv_null hx hb dX1_readKeys_172 ?_
              refine lv_astoreN (lv' := [(9, .null), (8, .int (nI 0)), (7, .int (nI 0)), (0, .ref me), (1, .ref ra), (2, .ref ro), (3, .ref o1), (4, .ref k.1), (5, va_rf lo), (6, .int (nI many))]) hx hb dX1_readKeys_173 hl (by decide) rfl (fun ls hl => ?_)
              refine lv_iload hx hb dX1_readKeys_175 (lv_at hl 2 rfl) ?_
              refine n_if_ne (tgt := 185) hx hb (by omega) dX1_readKeys_177 (by decide) (fun c177 => by exfalso; omega) (fun c177 => ?_)
              refine lv_iload hx hb dX1_readKeys_180 (lv_at hl 1 rfl) ?_
              refine n_if_eq (tgt := 195) hx hb (by omega) dX1_readKeys_182 (by decide) (fun c182 => ?_) (fun c182 => by exfalso; omega)
              refine lv_iload hx hb dX1_readKeys_195 (lv_at hl 2 rfl) ?_
              refine n_if_eq (tgt := 219) hx hb (by omega) dX1_readKeys_197 (by decide) (fun c197 => ?_) (fun c197 => by exfalso; omega)
              refine lv_iload hx hb dX1_readKeys_219 (lv_at hl 1 rfl) ?_
              refine n_if_eq (tgt := 237) hx hb (by omega) dX1_readKeys_221 (by decide) (fun c221 => ?_) (fun c221 => by exfalso; omega)
              refine lv_aload_n hx hb dX1_readKeys_237 rfl (lv_at hl 6 rfl) ?_
              refine o_get C h (RC := RX14) (T := TX14) (N := 7) (List.mem_of_getElem? (i := 0) rfl) rfl in_X14 4 (by decide) q1031 rfl (v := .int (nI k2)) rfl dX1_readKeys_238 ?_
              refine lv_bipush (v := nI 13) hx hb dX1_readKeys_241 (by decide) ?_
              refine n_icmp_ne (tgt := 257) hx hb (by omega) (by omega) dX1_readKeys_243 (by decide) (fun c243 => by exfalso; omega) (fun c243 => ?_)
              refine lv_aload hx hb dX1_readKeys_246 (lv_at hl 7 rfl) ?_
              refine lv_aload_n hx hb dX1_readKeys_248 rfl (lv_at hl 6 rfl) ?_
              have hA9 := hkS.1.2.2.1
              have hU9 : ∀ u ∈ k.2.2.2.1.2, UserIn dA (F ++ (E ++ E1)) u.1 u.2.1 u.2.2.1.1 := fun u hu => (hkS.1.2.2.2.2.1 u hu).1
              rcases find_ix (f := (fun u : US => decide (u.2.1 = bd))) k.2.2.2.1.2 with hf | ⟨j0, y0, hj0, hyes, hno, hf⟩
              · have h88 := hA9.2.2
                rcases (show (bd.length ≤ 200 ∧ k.2.2.2.1.2.length < 8) ∨ (200 < bd.length ∨ k.2.2.2.1.2.length = 8) by omega) with h16 | h16
                · have h : Wd D B s (ringW dA e0 (ra, lm, lx) Rg ++ (([(o1, .inr (11, [.ref rb, .int (nI lw.length), .int (nI n2), .int (nI nx), .int (nI k2), .ref q0, .ref pk])), (ho, .inr (2, [.ref st, .ref fi, .ref bl, .long u.1, .ref wo])), (st, war dA 5 u.2.1), (wo, war dA 80 u.2.2.1), (bl, bar dA 64 u.2.2.2.2), (dg, bar dA 32 gd), (pk, .inr (1, [.ref b2, .int (nI bd.length)])), (b2, bar dA (gro cap bd.length) g2)] ++ O) ++ (F ++ (E ++ E1)))) H locs := h.permL (perm_add (fun g f p0 p1 p2 => by (try simp only [p0, p1, p2]) <;> omega))
                  refine call_S (As := [.ref k.1, .ref o1]) (rest := []) (n := 2) C h (cR_userN l D dA B Z hZ ([(o1, .inr (11, [.ref rb, .int (nI lw.length), .int (nI n2), .int (nI nx), .int (nI k2), .ref q0, .ref pk])), (ho, .inr (2, [.ref st, .ref fi, .ref bl, .long u.1, .ref wo])), (st, war dA 5 u.2.1), (wo, war dA 80 u.2.2.1), (bl, bar dA 64 u.2.2.2.2), (dg, bar dA 32 gd), (pk, .inr (1, [.ref b2, .int (nI bd.length)])), (b2, bar dA (gro cap bd.length) g2)] ++ O) (F ++ (E ++ E1)) e0 mi (ra, lm, lx) Rg ci k o1 rb lw.length n2 nx k2 pk q0 bd hzs hza hik hA9 hU9 (List.mem_append_left _ (List.mem_append_left _ (List.mem_of_getElem? (i := 0) rfl))) hq2 hbd hbl hf h16.1 h16.2) (lw_S q1281 q1282 q129 q1283) (by decide +kernel) (by decide) (by decide) rfl hl rfl (Nat.le_of_ble_eq_true rfl) dX1_readKeys_249 (by omega) (fun u8 H locs hu8 h => ?_)
                  obtain ⟨y9, ⟨xa9, xm9, xx9⟩, E3⟩ := u8
                  obtain ⟨hy9, hxa, hL9, hUI⟩ := hu8
                  dsimp only at hy9 hxa hL9 hUI h
                  obtain ⟨k8, hk8⟩ : ∃ z, z = kU k (xa9, xm9, xx9) (k.2.2.2.1.2 ++ [y9]) := ⟨_, rfl⟩
                  rw [← hk8] at h
                  obtain ⟨R9, hR9⟩ : ∃ z, z = Rg.set ci k8 := ⟨_, rfl⟩
                  rw [← hR9] at h
                  have h : Wd D B s ([(o1, .inr (11, [.ref rb, .int (nI lw.length), .int (nI n2), .int (nI nx), .int (nI k2), .ref q0, .ref pk])), (ho, .inr (2, [.ref st, .ref fi, .ref bl, .long u.1, .ref wo])), (st, war dA 5 u.2.1), (wo, war dA 80 u.2.2.1), (bl, bar dA 64 u.2.2.2.2), (dg, bar dA 32 gd), (pk, .inr (1, [.ref b2, .int (nI bd.length)])), (b2, bar dA (gro cap bd.length) g2)] ++ (ringW dA e0 (ra, lm, lx) R9 ++ (O ++ (F ++ ((E ++ E1) ++ E3))))) H locs := h.permL (perm_add (fun g f p0 p1 p2 => by (try simp only [p0, p1, p2]) <;> omega))
                  have hRg3 : RgS dA cx (F ++ ((E ++ E1) ++ E3)) (ra, lm, lx) R9 := by
                    have z : RgS dA cx (F ++ ((E ++ E1) ++ E3)) (ra, lm, lx) Rg := hRg1.sub (fun z hz => by rw [← List.append_assoc]; exact List.mem_append_left _ hz)
                    rw [hR9, hk8]
                    exact z.set hik rfl ((z.2 k (List.mem_of_getElem? hik)).us hL9 hy9 (hUI.sub (fun b q hq => by rw [← List.append_assoc]; exact hq) (fun a fs hq => by rw [← List.append_assoc]; exact hq)))
                  have hcur3 : CurA R9 (some (ci, 1, k.2.2.2.1.2.length)) (some k.1) (some y9.1) := ⟨k8, by rw [hR9]; exact List.getElem?_set_self (List.getElem?_eq_some_iff.mp hik).1, by rw [hk8]; rfl, Or.inr (Or.inl ⟨rfl, y9, by rw [hk8]; exact List.getElem?_concat_length, rfl⟩)⟩
                  have hp3 : pkN (Rg.map kcK, some (ci, ca, cj), many) k2 bd = some (R9.map kcK, some (ci, 1, k.2.2.2.1.2.length), many) := by rw [hun]; unfold undN; rw [if_neg (by omega), if_pos hk]; show userN2 _ ci (kcK k) (usN (k.2.2.2.1.2.map kcU) bd) = _; rw [us_new hf h16.1 h16.2 hy9, hR9, ← set_map (y := k8) (z := ((kcK k).1, (kcK k).2.1, (k.2.2.2.1.2 ++ [y9]).map kcU, (kcK k).2.2.2)) (by rw [hk8]; rfl)]; rfl
                  show W p l e R s m args below meth c H locs (cc + 0 + (rC cap bd.length + 1) + 0 + 3) (cs + 0 + (rS cap bd.length + bd.length) + 0 + (2 * k.2.2.2.1.2.length + 16)) Q (F0 m 252 ls [.ref y9.1])
                  refine lv_astore (lv' := [(5, .ref y9.1), (9, .null), (8, .int (nI 0)), (7, .int (nI 0)), (0, .ref me), (1, .ref ra), (2, .ref ro), (3, .ref o1), (4, .ref k.1), (6, .int (nI many))]) hx hb dX1_readKeys_252 hl (by decide) rfl (fun ls hl => ?_)
                  refine lv_goto (tgt := 310) hx hb dX1_readKeys_254 (by decide) ?_
                  refine lv_goto (tgt := 22) hx hb dX1_readKeys_310 (by decide) ?_
                  exact ih n2 nx k2 (some q0) b2 (gro cap bd.length) g2 bd u gd lm lx R9 cx (some (ci, 1, k.2.2.2.1.2.length)) (some k.1) (some y9.1) many (fu - 1) ((E ++ E1) ++ E3) _ _ hadv.1 hsr2 hgc.1 hgc.2 hgb hgd hRg3 hcx hcur3 (hkn.trans (keysN_go hnl hfu0 hpk9 hp3)) (by omega) (by omega) (by (try dsimp only) <;> omega) (by (try dsimp only) <;> omega) (by omega) _ _ h _ (lv_sub hl [4, 5, 6, 7, 8, 0, 9] rfl)
                · have h : Wd D B s (ringW dA e0 (ra, lm, lx) Rg ++ (([(o1, .inr (11, [.ref rb, .int (nI lw.length), .int (nI n2), .int (nI nx), .int (nI k2), .ref q0, .ref pk])), (ho, .inr (2, [.ref st, .ref fi, .ref bl, .long u.1, .ref wo])), (st, war dA 5 u.2.1), (wo, war dA 80 u.2.2.1), (bl, bar dA 64 u.2.2.2.2), (dg, bar dA 32 gd), (pk, .inr (1, [.ref b2, .int (nI bd.length)])), (b2, bar dA (gro cap bd.length) g2)] ++ O) ++ (F ++ (E ++ E1)))) H locs := h.permL (perm_add (fun g f p0 p1 p2 => by (try simp only [p0, p1, p2]) <;> omega))
                  refine call_SX (As := [.ref k.1, .ref o1]) (rest := []) (n := 2) C h (cR_userX l D dA B Z hZ ([(o1, .inr (11, [.ref rb, .int (nI lw.length), .int (nI n2), .int (nI nx), .int (nI k2), .ref q0, .ref pk])), (ho, .inr (2, [.ref st, .ref fi, .ref bl, .long u.1, .ref wo])), (st, war dA 5 u.2.1), (wo, war dA 80 u.2.2.1), (bl, bar dA 64 u.2.2.2.2), (dg, bar dA 32 gd), (pk, .inr (1, [.ref b2, .int (nI bd.length)])), (b2, bar dA (gro cap bd.length) g2)] ++ O) (F ++ (E ++ E1)) e0 mi (ra, lm, lx) Rg ci k o1 rb lw.length n2 nx k2 pk q0 bd hlt hzx hik hA9 hU9 (List.mem_append_left _ (List.mem_append_left _ (List.mem_of_getElem? (i := 0) rfl))) hq2 hbd hbl hf h16) (lw_S q1281 q1282 q129 q1283) (by decide +kernel) (by decide) (by decide) rfl hl rfl (Nat.le_of_ble_eq_true rfl) dX1_readKeys_249 (by omega) (fun ux ce9 H locs hux h hce9 hcv9 hcl9 => ?_) (fun _ H locs hu h => ?_)
                  · obtain ⟨q8, E8⟩ := ux
                    dsimp only at hux h
                    have hkn9 := hkn.trans (keysN_bad hnl hfu0 hpk9 (by rw [hun]; unfold undN; rw [if_neg (by omega), if_pos hk]; show userN2 _ ci (kcK k) (usN (k.2.2.2.1.2.map kcU) bd) = _; rw [us_full hf h16]; rfl))
                    have h : Wd D B s ([(ho, .inr (2, [.ref st, .ref fi, .ref bl, .long u.1, .ref wo])), (st, war dA 5 u.2.1), (wo, war dA 80 u.2.2.1), (bl, bar dA 64 u.2.2.2.2)] ++ ([(dg, bar dA 32 gd), (pk, .inr (1, [.ref b2, .int (nI bd.length)])), (b2, bar dA (gro cap bd.length) g2)] ++ ([(o1, .inr (11, [.ref rb, .int (nI lw.length), .int (nI n2), .int (nI nx), .int (nI k2), .ref q0, .ref pk]))] ++ (ringW dA e0 (ra, lm, lx) Rg ++ (O ++ (F ++ ((E ++ E1) ++ E8))))))) H locs := h.permL (perm_add (fun g f p0 p1 p2 => by (try simp only [p0, p1, p2]) <;> omega))
                    have h : Wd D B s (h4C dA ho st fi bl wo u ++ ([(dg, bar dA 32 gd), (pk, .inr (1, [.ref b2, .int (nI bd.length)])), (b2, bar dA (gro cap bd.length) g2)] ++ ([(o1, .inr (11, [.ref rb, .int (nI lw.length), .int (nI n2), .int (nI nx), .int (nI k2), .ref q0, .ref pk]))] ++ (ringW dA e0 (ra, lm, lx) Rg ++ (O ++ (F ++ ((E ++ E1) ++ E8))))))) H locs := h
                    have hft : FaultIn ([(o1, .inr (11, [.ref rb, .int (nI lw.length), .int (nI n2), .int (nI nx), .int (nI k2), .ref q0, .ref pk]))] ++ (ringW dA e0 (ra, lm, lx) Rg ++ (O ++ (F ++ ((E ++ E1) ++ E8))))) q8 (tellN kr lw.length) := by
                      unfold tellN
                      rw [hkn9, if_neg (m1_ne (by omega))]
                      exact hux.up (fun z hz => List.mem_append_right _ (List.mem_append_right _ (List.mem_append_right _ (List.mem_append_right _ (List.mem_append_right _ hz)))))
                    have hk0 : kr.1 = 0 → kr.2.2.2 = 0 := fun q9 => by rw [hkn9] at q9; exact absurd q9 (m1_ne (by omega))
                    subst hQ
                    exact thr_out C hex hlocks h (q8, u, gd, (b2, gro cap bd.length, g2, bd), [(o1, .inr (11, [.ref rb, .int (nI lw.length), .int (nI n2), .int (nI nx), .int (nI k2), .ref q0, .ref pk]))] ++ (ringW dA e0 (ra, lm, lx) Rg ++ (O ++ (F ++ ((E ++ E1) ++ E8))))) rfl rfl (⟨⟨hgd, hgb, hsr2, hgc.1, hgc.2⟩, hft, fun x9 hx9 => List.mem_append_right _ (List.mem_append_right _ (memOE hx9)), hk0⟩) rfl hce9 hcv9 hcl9 (by omega) (by omega)
                  exact hu.elim
              · have h : Wd D B s (ringW dA e0 (ra, lm, lx) Rg ++ (([(o1, .inr (11, [.ref rb, .int (nI lw.length), .int (nI n2), .int (nI nx), .int (nI k2), .ref q0, .ref pk])), (ho, .inr (2, [.ref st, .ref fi, .ref bl, .long u.1, .ref wo])), (st, war dA 5 u.2.1), (wo, war dA 80 u.2.2.1), (bl, bar dA 64 u.2.2.2.2), (dg, bar dA 32 gd), (pk, .inr (1, [.ref b2, .int (nI bd.length)])), (b2, bar dA (gro cap bd.length) g2)] ++ O) ++ (F ++ (E ++ E1)))) H locs := h.permL (perm_add (fun g f p0 p1 p2 => by (try simp only [p0, p1, p2]) <;> omega))
                refine call_S (As := [.ref k.1, .ref o1]) (rest := []) (n := 2) C h (cR_userH l D dA B Z hZ ([(o1, .inr (11, [.ref rb, .int (nI lw.length), .int (nI n2), .int (nI nx), .int (nI k2), .ref q0, .ref pk])), (ho, .inr (2, [.ref st, .ref fi, .ref bl, .long u.1, .ref wo])), (st, war dA 5 u.2.1), (wo, war dA 80 u.2.2.1), (bl, bar dA 64 u.2.2.2.2), (dg, bar dA 32 gd), (pk, .inr (1, [.ref b2, .int (nI bd.length)])), (b2, bar dA (gro cap bd.length) g2)] ++ O) (F ++ (E ++ E1)) e0 mi (ra, lm, lx) Rg ci k o1 rb lw.length n2 nx k2 pk q0 bd y0 hik hA9 hU9 (List.mem_append_left _ (List.mem_append_left _ (List.mem_of_getElem? (i := 0) rfl))) hq2 hbd hbl hf) (lw_S q1281 q1282 q129 q1283) (by decide +kernel) (by decide) (by decide) rfl hl rfl (Nat.le_of_ble_eq_true rfl) dX1_readKeys_249 (by omega) (fun _ H locs _ h => ?_)
                have h : Wd D B s ([(o1, .inr (11, [.ref rb, .int (nI lw.length), .int (nI n2), .int (nI nx), .int (nI k2), .ref q0, .ref pk])), (ho, .inr (2, [.ref st, .ref fi, .ref bl, .long u.1, .ref wo])), (st, war dA 5 u.2.1), (wo, war dA 80 u.2.2.1), (bl, bar dA 64 u.2.2.2.2), (dg, bar dA 32 gd), (pk, .inr (1, [.ref b2, .int (nI bd.length)])), (b2, bar dA (gro cap bd.length) g2)] ++ (ringW dA e0 (ra, lm, lx) Rg ++ (O ++ (F ++ (E ++ E1))))) H locs := h.permL (perm_add (fun g f p0 p1 p2 => by (try simp only [p0, p1, p2]) <;> omega))
                have hcur3 : CurA Rg (some (ci, 1, j0)) (some k.1) (some y0.1) := ⟨k, hik, rfl, Or.inr (Or.inl ⟨rfl, y0, hj0, rfl⟩)⟩
                have hp3 : pkN (Rg.map kcK, some (ci, ca, cj), many) k2 bd = some (Rg.map kcK, some (ci, 1, j0), many) := by rw [hun]; unfold undN; rw [if_neg (by omega), if_pos hk]; show userN2 _ ci (kcK k) (usN (k.2.2.2.1.2.map kcU) bd) = _; rw [us_hit hj0 hno (of_decide_eq_true hyes)]; show some ((Rg.map kcK).set ci (kcK k), _) = _; rw [set_same (by rw [List.getElem?_map, hik]; rfl)]
                refine lv_astore (lv' := [(5, .ref y0.1), (9, .null), (8, .int (nI 0)), (7, .int (nI 0)), (0, .ref me), (1, .ref ra), (2, .ref ro), (3, .ref o1), (4, .ref k.1), (6, .int (nI many))]) hx hb dX1_readKeys_252 hl (by decide) rfl (fun ls hl => ?_)
                refine lv_goto (tgt := 310) hx hb dX1_readKeys_254 (by decide) ?_
                refine lv_goto (tgt := 22) hx hb dX1_readKeys_310 (by decide) ?_
                exact ih n2 nx k2 (some q0) b2 (gro cap bd.length) g2 bd u gd lm lx Rg cx (some (ci, 1, j0)) (some k.1) (some y0.1) many (fu - 1) (E ++ E1) _ _ hadv.1 hsr2 hgc.1 hgc.2 hgb hgd hRg1 hcx hcur3 (hkn.trans (keysN_go hnl hfu0 hpk9 hp3)) (by omega) (by omega) (by (try dsimp only) <;> omega) (by (try dsimp only) <;> omega) (by omega) _ _ h _ (lv_sub hl [4, 5, 6, 7, 8, 0, 9] rfl)
          · have hkp : ¬ (k2 = 10 ∨ k2 = 12 ∨ k2 = 17 ∨ 40 ≤ k2) := by omega
            rw [if_neg (show ¬ k2 = 11 by omega)] at hbo2
            obtain ⟨q0, e8, hq8, hfr8⟩ := hbo2
            have hq1 := mem_new hp1 hq8 hfr8
            rw [e8] at h
            have hq2 : (q0, bal dA bd) ∈ F ++ (E ++ E1) := List.mem_append_right _ (List.mem_append_right _ hq1)
            have h : Wd D B s ([(o1, .inr (11, [.ref rb, .int (nI lw.length), .int (nI n2), .int (nI nx), .int (nI k2), .ref q0, .ref pk])), (ho, .inr (2, [.ref st, .ref fi, .ref bl, .long u.1, .ref wo])), (st, war dA 5 u.2.1), (wo, war dA 80 u.2.2.1), (bl, bar dA 64 u.2.2.2.2), (dg, bar dA 32 gd), (pk, .inr (1, [.ref b2, .int (nI bd.length)])), (b2, bar dA (gro cap bd.length) g2)] ++ (ringW dA e0 (ra, lm, lx) Rg ++ (O ++ (F ++ (E ++ E1))))) H locs := h
            have hk56 : ¬ (k2 = 5 ∨ k2 = 6) := by omega
            rcases cu with _ | c8
            · obtain ⟨hko, hlo⟩ := hcur
              rw [hko, hlo] at hl
              have hl : lv_has ls 11 [(0, .ref me), (1, .ref ra), (2, .ref ro), (3, .ref o1), (4, .null), (5, .null), (6, .int (nI many))] := hl
              refine lv_aload_n hx hb dX1_readKeys_33 rfl (lv_at hl 3 rfl) ?_
              refine call_VR (As := []) (rest := []) (n := 0) C h (c14_isPassed l D dA B Z hZ ([(ho, .inr (2, [.ref st, .ref fi, .ref bl, .long u.1, .ref wo])), (st, war dA 5 u.2.1), (wo, war dA 80 u.2.2.1), (bl, bar dA 64 u.2.2.2.2), (dg, bar dA 32 gd), (pk, .inr (1, [.ref b2, .int (nI bd.length)])), (b2, bar dA (gro cap bd.length) g2)] ++ (ringW dA e0 (ra, lm, lx) Rg ++ (O ++ (F ++ (E ++ E1))))) o1 rb pk lw.length n2 nx k2 (some q0) (by omega)) (lw_V q1084 q1085 q1086 q162 q1087) (by decide +kernel) (o_recv C h (RC := RX14) (T := TX14) (N := 7) (List.mem_of_getElem? (i := 0) rfl) rfl) (by decide) (by decide) rfl hl rfl (Nat.le_of_ble_eq_true rfl) dX1_readKeys_34 (by omega) (fun _ H locs _ h => ?_)
              have h : Wd D B s ([(o1, .inr (11, [.ref rb, .int (nI lw.length), .int (nI n2), .int (nI nx), .int (nI k2), .ref q0, .ref pk])), (ho, .inr (2, [.ref st, .ref fi, .ref bl, .long u.1, .ref wo])), (st, war dA 5 u.2.1), (wo, war dA 80 u.2.2.1), (bl, bar dA 64 u.2.2.2.2), (dg, bar dA 32 gd), (pk, .inr (1, [.ref b2, .int (nI bd.length)])), (b2, bar dA (gro cap bd.length) g2)] ++ (ringW dA e0 (ra, lm, lx) Rg ++ (O ++ (F ++ (E ++ E1))))) H locs := h
              have h : Wd D B s ([(o1, .inr (11, [.ref rb, .int (nI lw.length), .int (nI n2), .int (nI nx), .int (nI k2), .ref q0, .ref pk])), (ho, .inr (2, [.ref st, .ref fi, .ref bl, .long u.1, .ref wo])), (st, war dA 5 u.2.1), (wo, war dA 80 u.2.2.1), (bl, bar dA 64 u.2.2.2.2), (dg, bar dA 32 gd), (pk, .inr (1, [.ref b2, .int (nI bd.length)])), (b2, bar dA (gro cap bd.length) g2)] ++ (ringW dA e0 (ra, lm, lx) Rg ++ (O ++ (F ++ (E ++ E1))))) H locs := h.permL (perm_add (fun g f p0 p1 p2 => by (try simp only [p0, p1, p2]) <;> omega))
              refine z_if_eq (tgt := 43) hx hb dX1_readKeys_37 (by decide) (fun c37 => ?_) (fun c37 => by exfalso; exact hkp (of_decide_eq_true c37))
              refine lv_aload_n hx hb dX1_readKeys_43 rfl (lv_at hl 3 rfl) ?_
              refine o_get C h (RC := RX14) (T := TX14) (N := 7) (List.mem_of_getElem? (i := 0) rfl) rfl in_X14 4 (by decide) q1031 rfl (v := .int (nI k2)) rfl dX1_readKeys_44 ?_
              refine lv_bipush (v := nI 6) hx hb dX1_readKeys_47 (by decide) ?_
              refine n_icmp_eq (tgt := 60) hx hb (by omega) (by omega) dX1_readKeys_49 (by decide) (fun c49 => by exfalso; omega) (fun c49 => ?_)
              refine lv_aload_n hx hb dX1_readKeys_52 rfl (lv_at hl 3 rfl) ?_
              refine o_get C h (RC := RX14) (T := TX14) (N := 7) (List.mem_of_getElem? (i := 0) rfl) rfl in_X14 4 (by decide) q1031 rfl (v := .int (nI k2)) rfl dX1_readKeys_53 ?_
              refine lv_iconst (v := nI 5) hx hb dX1_readKeys_56 (by decide) ?_
              refine n_icmp_ne (tgt := 64) hx hb (by omega) (by omega) dX1_readKeys_57 (by decide) (fun c57 => ?_) (fun c57 => by exfalso; omega)
              refine lv_iconst (v := nI 0) hx hb dX1_readKeys_64 (by decide) ?_
              refine lv_istore (lv' := [(7, .int (nI 0)), (0, .ref me), (1, .ref ra), (2, .ref ro), (3, .ref o1), (4, .null), (5, .null), (6, .int (nI many))]) hx hb dX1_readKeys_65 hl (by decide) rfl (fun ls hl => ?_)
              refine lv_aload_n hx hb dX1_readKeys_67 rfl (lv_at hl 4 rfl) ?_
              refine o_get C h (RC := RX14) (T := TX14) (N := 7) (List.mem_of_getElem? (i := 0) rfl) rfl in_X14 4 (by decide) q1031 rfl (v := .int (nI k2)) rfl dX1_readKeys_68 ?_
              refine lv_bipush (v := nI 14) hx hb dX1_readKeys_71 (by decide) ?_
              refine n_icmp_eq (tgt := 85) hx hb (by omega) (by omega) dX1_readKeys_73 (by decide) (fun c73 => by exfalso; omega) (fun c73 => ?_)
              refine lv_aload_n hx hb dX1_readKeys_76 rfl (lv_at hl 4 rfl) ?_
              refine o_get C h (RC := RX14) (T := TX14) (N := 7) (List.mem_of_getElem? (i := 0) rfl) rfl in_X14 4 (by decide) q1031 rfl (v := .int (nI k2)) rfl dX1_readKeys_77 ?_
              refine lv_bipush (v := nI 7) hx hb dX1_readKeys_80 (by decide) ?_
              refine n_icmp_ne (tgt := 89) hx hb (by omega) (by omega) dX1_readKeys_82 (by decide) (fun c82 => ?_) (fun c82 => by exfalso; omega)
              refine lv_iconst (v := nI 0) hx hb dX1_readKeys_89 (by decide) ?_
              refine lv_istore (lv' := [(8, .int (nI 0)), (7, .int (nI 0)), (0, .ref me), (1, .ref ra), (2, .ref ro), (3, .ref o1), (4, .null), (5, .null), (6, .int (nI many))]) hx hb dX1_readKeys_90 hl (by decide) rfl (fun ls hl => ?_)
              refine lv_iload hx hb dX1_readKeys_92 (lv_at hl 1 rfl) ?_
              refine n_if_ne (tgt := 129) hx hb (by omega) dX1_readKeys_94 (by decide) (fun c94 => by exfalso; omega) (fun c94 => ?_)
              refine lv_aloadN hx hb dX1_readKeys_97 (lv_at hl 6 rfl) ?_
              refine lv_ifnullN (tgt := 124) hx hb dX1_readKeys_99 (by decide) ?_
              refine lv_aload_n hx hb dX1_readKeys_124 rfl (lv_at hl 5 rfl) ?_
              refine call_VR (As := []) (rest := []) (n := 0) C h (c14_fault l D dA B Z hZ _ o1 rb lw.length n2 nx k2 pk (some q0) hlt hzx (List.mem_of_getElem? (i := 0) rfl)) (lw_V q1088 q1064 q1065 q162 q1066) (by decide +kernel) (o_recv C h (RC := RX14) (T := TX14) (N := 7) (List.mem_of_getElem? (i := 0) rfl) rfl) (by decide) (by decide) rfl hl rfl (Nat.le_of_ble_eq_true rfl) dX1_readKeys_125 (by omega) (fun u8 H locs _ h => ?_)
              obtain ⟨q9, x9⟩ := u8
              have h : Wd D B s ([(q9, .inr (10, fts x9 (-1 - nI nx))), (o1, .inr (11, [.ref rb, .int (nI lw.length), .int (nI n2), .int (nI nx), .int (nI k2), .ref q0, .ref pk])), (ho, .inr (2, [.ref st, .ref fi, .ref bl, .long u.1, .ref wo])), (st, war dA 5 u.2.1), (wo, war dA 80 u.2.2.1), (bl, bar dA 64 u.2.2.2.2), (dg, bar dA 32 gd), (pk, .inr (1, [.ref b2, .int (nI bd.length)])), (b2, bar dA (gro cap bd.length) g2)] ++ (ringW dA e0 (ra, lm, lx) Rg ++ (O ++ (F ++ (E ++ E1))))) H locs := h
              subst hQ
              have hkn9 := hkn.trans (keysN_bad hnl hfu0 hpk9 (pkN_no hkp hk56 rfl))
              have h : Wd D B s ([(ho, .inr (2, [.ref st, .ref fi, .ref bl, .long u.1, .ref wo])), (st, war dA 5 u.2.1), (wo, war dA 80 u.2.2.1), (bl, bar dA 64 u.2.2.2.2)] ++ ([(dg, bar dA 32 gd), (pk, .inr (1, [.ref b2, .int (nI bd.length)])), (b2, bar dA (gro cap bd.length) g2)] ++ ([(q9, .inr (10, fts x9 (-1 - nI nx)))] ++ ([(o1, .inr (11, [.ref rb, .int (nI lw.length), .int (nI n2), .int (nI nx), .int (nI k2), .ref q0, .ref pk]))] ++ (ringW dA e0 (ra, lm, lx) Rg ++ (O ++ (F ++ (E ++ E1)))))))) H locs := h.permL (perm_add (fun g f p0 p1 p2 => by (try simp only [p0, p1, p2]) <;> omega))
              have h : Wd D B s (h4C dA ho st fi bl wo u ++ ([(dg, bar dA 32 gd), (pk, .inr (1, [.ref b2, .int (nI bd.length)])), (b2, bar dA (gro cap bd.length) g2)] ++ ([(q9, .inr (10, fts x9 (-1 - nI nx)))] ++ ([(o1, .inr (11, [.ref rb, .int (nI lw.length), .int (nI n2), .int (nI nx), .int (nI k2), .ref q0, .ref pk]))] ++ (ringW dA e0 (ra, lm, lx) Rg ++ (O ++ (F ++ (E ++ E1)))))))) H locs := h
              have hft : FaultIn ([(q9, .inr (10, fts x9 (-1 - nI nx)))] ++ ([(o1, .inr (11, [.ref rb, .int (nI lw.length), .int (nI n2), .int (nI nx), .int (nI k2), .ref q0, .ref pk]))] ++ (ringW dA e0 (ra, lm, lx) Rg ++ (O ++ (F ++ (E ++ E1)))))) q9 (tellN kr lw.length) := by
                unfold tellN
                rw [hkn9, if_neg (m1_ne (by omega))]
                exact ⟨x9, List.mem_append_left _ List.mem_cons_self⟩
              have hk0 : kr.1 = 0 → kr.2.2.2 = 0 := fun q9 => by rw [hkn9] at q9; exact absurd q9 (m1_ne (by omega))
              exact x_athrow C hex hlocks h (List.mem_append_right _ (List.mem_append_right _ (List.mem_append_left _ List.mem_cons_self))) rfl (q9, u, gd, (b2, gro cap bd.length, g2, bd), [(q9, .inr (10, fts x9 (-1 - nI nx)))] ++ ([(o1, .inr (11, [.ref rb, .int (nI lw.length), .int (nI n2), .int (nI nx), .int (nI k2), .ref q0, .ref pk]))] ++ (ringW dA e0 (ra, lm, lx) Rg ++ (O ++ (F ++ (E ++ E1)))))) rfl rfl (⟨⟨hgd, hgb, hsr2, hgc.1, hgc.2⟩, hft, fun x9 hx9 => List.mem_append_right _ (List.mem_append_right _ (List.mem_append_right _ (memOE hx9))), hk0⟩) rfl (by omega) (by omega) dX1_readKeys_128
            · obtain ⟨ci, ca, cj⟩ := c8
              obtain ⟨k, hik, hko, hlt9⟩ := hcur
              dsimp only at hik hlt9
              rw [hko] at hl
              have hl : lv_has ls 11 [(0, .ref me), (1, .ref ra), (2, .ref ro), (3, .ref o1), (4, .ref k.1), (5, va_rf lo), (6, .int (nI many))] := hl
              have hkS := hRg1.2 k (List.mem_of_getElem? hik)
              have hun := pkN_un (m := many) (bd := bd) (a := ca) (j := cj) hkp hk56 hik
              rcases hlt9 with hlt9 | hlt9 | hlt9
              · obtain ⟨hc0, hlo⟩ := hlt9
                rw [hlo] at hl
                have hl : lv_has ls 11 [(0, .ref me), (1, .ref ra), (2, .ref ro), (3, .ref o1), (4, .ref k.1), (5, .ref k.1), (6, .int (nI many))] := hl
                refine lv_aload_n hx hb dX1_readKeys_33 rfl (lv_at hl 3 rfl) ?_
                refine call_VR (As := []) (rest := []) (n := 0) C h (c14_isPassed l D dA B Z hZ ([(ho, .inr (2, [.ref st, .ref fi, .ref bl, .long u.1, .ref wo])), (st, war dA 5 u.2.1), (wo, war dA 80 u.2.2.1), (bl, bar dA 64 u.2.2.2.2), (dg, bar dA 32 gd), (pk, .inr (1, [.ref b2, .int (nI bd.length)])), (b2, bar dA (gro cap bd.length) g2)] ++ (ringW dA e0 (ra, lm, lx) Rg ++ (O ++ (F ++ (E ++ E1))))) o1 rb pk lw.length n2 nx k2 (some q0) (by omega)) (lw_V q1084 q1085 q1086 q162 q1087) (by decide +kernel) (o_recv C h (RC := RX14) (T := TX14) (N := 7) (List.mem_of_getElem? (i := 0) rfl) rfl) (by decide) (by decide) rfl hl rfl (Nat.le_of_ble_eq_true rfl) dX1_readKeys_34 (by omega) (fun _ H locs _ h => ?_)
                have h : Wd D B s ([(o1, .inr (11, [.ref rb, .int (nI lw.length), .int (nI n2), .int (nI nx), .int (nI k2), .ref q0, .ref pk])), (ho, .inr (2, [.ref st, .ref fi, .ref bl, .long u.1, .ref wo])), (st, war dA 5 u.2.1), (wo, war dA 80 u.2.2.1), (bl, bar dA 64 u.2.2.2.2), (dg, bar dA 32 gd), (pk, .inr (1, [.ref b2, .int (nI bd.length)])), (b2, bar dA (gro cap bd.length) g2)] ++ (ringW dA e0 (ra, lm, lx) Rg ++ (O ++ (F ++ (E ++ E1))))) H locs := h
                have h : Wd D B s ([(o1, .inr (11, [.ref rb, .int (nI lw.length), .int (nI n2), .int (nI nx), .int (nI k2), .ref q0, .ref pk])), (ho, .inr (2, [.ref st, .ref fi, .ref bl, .long u.1, .ref wo])), (st, war dA 5 u.2.1), (wo, war dA 80 u.2.2.1), (bl, bar dA 64 u.2.2.2.2), (dg, bar dA 32 gd), (pk, .inr (1, [.ref b2, .int (nI bd.length)])), (b2, bar dA (gro cap bd.length) g2)] ++ (ringW dA e0 (ra, lm, lx) Rg ++ (O ++ (F ++ (E ++ E1))))) H locs := h.permL (perm_add (fun g f p0 p1 p2 => by (try simp only [p0, p1, p2]) <;> omega))
                refine z_if_eq (tgt := 43) hx hb dX1_readKeys_37 (by decide) (fun c37 => ?_) (fun c37 => by exfalso; exact hkp (of_decide_eq_true c37))
                refine lv_aload_n hx hb dX1_readKeys_43 rfl (lv_at hl 3 rfl) ?_
                refine o_get C h (RC := RX14) (T := TX14) (N := 7) (List.mem_of_getElem? (i := 0) rfl) rfl in_X14 4 (by decide) q1031 rfl (v := .int (nI k2)) rfl dX1_readKeys_44 ?_
                refine lv_bipush (v := nI 6) hx hb dX1_readKeys_47 (by decide) ?_
                refine n_icmp_eq (tgt := 60) hx hb (by omega) (by omega) dX1_readKeys_49 (by decide) (fun c49 => by exfalso; omega) (fun c49 => ?_)
                refine lv_aload_n hx hb dX1_readKeys_52 rfl (lv_at hl 3 rfl) ?_
                refine o_get C h (RC := RX14) (T := TX14) (N := 7) (List.mem_of_getElem? (i := 0) rfl) rfl in_X14 4 (by decide) q1031 rfl (v := .int (nI k2)) rfl dX1_readKeys_53 ?_
                refine lv_iconst (v := nI 5) hx hb dX1_readKeys_56 (by decide) ?_
                refine n_icmp_ne (tgt := 64) hx hb (by omega) (by omega) dX1_readKeys_57 (by decide) (fun c57 => ?_) (fun c57 => by exfalso; omega)
                refine lv_iconst (v := nI 0) hx hb dX1_readKeys_64 (by decide) ?_
                refine lv_istore (lv' := [(7, .int (nI 0)), (0, .ref me), (1, .ref ra), (2, .ref ro), (3, .ref o1), (4, .ref k.1), (5, .ref k.1), (6, .int (nI many))]) hx hb dX1_readKeys_65 hl (by decide) rfl (fun ls hl => ?_)
                refine lv_aload_n hx hb dX1_readKeys_67 rfl (lv_at hl 4 rfl) ?_
                refine o_get C h (RC := RX14) (T := TX14) (N := 7) (List.mem_of_getElem? (i := 0) rfl) rfl in_X14 4 (by decide) q1031 rfl (v := .int (nI k2)) rfl dX1_readKeys_68 ?_
                refine lv_bipush (v := nI 14) hx hb dX1_readKeys_71 (by decide) ?_
                refine n_icmp_eq (tgt := 85) hx hb (by omega) (by omega) dX1_readKeys_73 (by decide) (fun c73 => by exfalso; omega) (fun c73 => ?_)
                refine lv_aload_n hx hb dX1_readKeys_76 rfl (lv_at hl 4 rfl) ?_
                refine o_get C h (RC := RX14) (T := TX14) (N := 7) (List.mem_of_getElem? (i := 0) rfl) rfl in_X14 4 (by decide) q1031 rfl (v := .int (nI k2)) rfl dX1_readKeys_77 ?_
                refine lv_bipush (v := nI 7) hx hb dX1_readKeys_80 (by decide) ?_
                refine n_icmp_ne (tgt := 89) hx hb (by omega) (by omega) dX1_readKeys_82 (by decide) (fun c82 => ?_) (fun c82 => by exfalso; omega)
                refine lv_iconst (v := nI 0) hx hb dX1_readKeys_89 (by decide) ?_
                refine lv_istore (lv' := [(8, .int (nI 0)), (7, .int (nI 0)), (0, .ref me), (1, .ref ra), (2, .ref ro), (3, .ref o1), (4, .ref k.1), (5, .ref k.1), (6, .int (nI many))]) hx hb dX1_readKeys_90 hl (by decide) rfl (fun ls hl => ?_)
                refine lv_iload hx hb dX1_readKeys_92 (lv_at hl 1 rfl) ?_
                refine n_if_ne (tgt := 129) hx hb (by omega) dX1_readKeys_94 (by decide) (fun c94 => by exfalso; omega) (fun c94 => ?_)
                refine lv_aload hx hb dX1_readKeys_97 (lv_at hl 6 rfl) ?_
                refine lv_ifnull hx hb dX1_readKeys_99 ?_
                refine lv_iload hx hb dX1_readKeys_102 (lv_at hl 0 rfl) ?_
                refine n_if_ne (tgt := 129) hx hb (by omega) dX1_readKeys_104 (by decide) (fun c104 => by exfalso; omega) (fun c104 => ?_)
                refine lv_aload_n hx hb dX1_readKeys_107 rfl (lv_at hl 5 rfl) ?_
                refine o_get C h (RC := RX14) (T := TX14) (N := 7) (List.mem_of_getElem? (i := 0) rfl) rfl in_X14 4 (by decide) q1031 rfl (v := .int (nI k2)) rfl dX1_readKeys_108 ?_
                refine lv_iconst (v := nI 2) hx hb dX1_readKeys_111 (by decide) ?_
                refine n_icmp_eq (tgt := 129) hx hb (by omega) (by omega) dX1_readKeys_112 (by decide) (fun c112 => ?_) (fun c112 => by exfalso; omega)
                refine lv_iload hx hb dX1_readKeys_129 (lv_at hl 1 rfl) ?_
                refine n_if_ne (tgt := 139) hx hb (by omega) dX1_readKeys_131 (by decide) (fun c131 => by exfalso; omega) (fun c131 => ?_)
                refine lv_iload hx hb dX1_readKeys_134 (lv_at hl 0 rfl) ?_
                refine n_if_eq (tgt := 172) hx hb (by omega) dX1_readKeys_136 (by decide) (fun c136 => ?_) (fun c136 => by exfalso; omega)
                refine lv_null hx hb dX1_readKeys_172 ?_
                refine lv_astoreN (lv' := [(9, .null), (8, .int (nI 0)), (7, .int (nI 0)), (0, .ref me), (1, .ref ra), (2, .ref ro), (3, .ref o1), (4, .ref k.1), (5, .ref k.1), (6, .int (nI many))]) hx hb dX1_readKeys_173 hl (by decide) rfl (fun ls hl => ?_)
                refine lv_iload hx hb dX1_readKeys_175 (lv_at hl 2 rfl) ?_
                refine n_if_ne (tgt := 185) hx hb (by omega) dX1_readKeys_177 (by decide) (fun c177 => by exfalso; omega) (fun c177 => ?_)
                refine lv_iload hx hb dX1_readKeys_180 (lv_at hl 1 rfl) ?_
                refine n_if_eq (tgt := 195) hx hb (by omega) dX1_readKeys_182 (by decide) (fun c182 => ?_) (fun c182 => by exfalso; omega)
                refine lv_iload hx hb dX1_readKeys_195 (lv_at hl 2 rfl) ?_
                refine n_if_eq (tgt := 219) hx hb (by omega) dX1_readKeys_197 (by decide) (fun c197 => ?_) (fun c197 => by exfalso; omega)
                refine lv_iload hx hb dX1_readKeys_219 (lv_at hl 1 rfl) ?_
                refine n_if_eq (tgt := 237) hx hb (by omega) dX1_readKeys_221 (by decide) (fun c221 => ?_) (fun c221 => by exfalso; omega)
                refine lv_aload_n hx hb dX1_readKeys_237 rfl (lv_at hl 6 rfl) ?_
                refine o_get C h (RC := RX14) (T := TX14) (N := 7) (List.mem_of_getElem? (i := 0) rfl) rfl in_X14 4 (by decide) q1031 rfl (v := .int (nI k2)) rfl dX1_readKeys_238 ?_
                refine lv_bipush (v := nI 13) hx hb dX1_readKeys_241 (by decide) ?_
                refine n_icmp_ne (tgt := 257) hx hb (by omega) (by omega) dX1_readKeys_243 (by decide) (fun c243 => ?_) (fun c243 => by exfalso; omega)
                refine lv_aload_n hx hb dX1_readKeys_257 rfl (lv_at hl 6 rfl) ?_
                rcases (show bd.length = 0 ∨ ¬ bd.length = 0 by omega) with h0b | h0b
                · refine call_SX (As := [.ref o1]) (rest := []) (n := 1) C h (c1_sealX l D dA B Z hZ ([(o1, .inr (11, [.ref rb, .int (nI lw.length), .int (nI n2), .int (nI nx), .int (nI k2), .ref q0, .ref pk])), (ho, .inr (2, [.ref st, .ref fi, .ref bl, .long u.1, .ref wo])), (st, war dA 5 u.2.1), (wo, war dA 80 u.2.2.1), (bl, bar dA 64 u.2.2.2.2), (dg, bar dA 32 gd), (pk, .inr (1, [.ref b2, .int (nI bd.length)])), (b2, bar dA (gro cap bd.length) g2)] ++ (ringW dA e0 (ra, lm, lx) Rg ++ (O ++ (F ++ (E ++ E1))))) o1 rb lw.length n2 nx k2 pk q0 bd hlt hzx (List.mem_of_getElem? (i := 0) rfl) (List.mem_append_right _ (List.mem_append_right _ (List.mem_append_right _ hq2))) hbd hbl (Or.inl h0b)) (lw_S q1291 q1292 q129 q1293) (by decide +kernel) (by decide) (by decide) rfl hl rfl (Nat.le_of_ble_eq_true rfl) dX1_readKeys_258 (by omega) (fun ux ce9 H locs hux h hce9 hcv9 hcl9 => ?_) (fun _ H locs hu h => ?_)
                  · obtain ⟨q8, E8⟩ := ux
                    dsimp only at hux h
                    have hkn9 := hkn.trans (keysN_bad hnl hfu0 hpk9 (by rw [hun]; unfold undN; rw [if_neg (by omega), if_neg (by omega), if_pos hk]; show sealN2 _ ci ca cj (kcK k) bd = _; unfold sealN2; rw [if_pos h0b]))
                    have h : Wd D B s ([(ho, .inr (2, [.ref st, .ref fi, .ref bl, .long u.1, .ref wo])), (st, war dA 5 u.2.1), (wo, war dA 80 u.2.2.1), (bl, bar dA 64 u.2.2.2.2)] ++ ([(dg, bar dA 32 gd), (pk, .inr (1, [.ref b2, .int (nI bd.length)])), (b2, bar dA (gro cap bd.length) g2)] ++ ([(o1, .inr (11, [.ref rb, .int (nI lw.length), .int (nI n2), .int (nI nx), .int (nI k2), .ref q0, .ref pk]))] ++ (ringW dA e0 (ra, lm, lx) Rg ++ (O ++ (F ++ ((E ++ E1) ++ E8))))))) H locs := h.permL (perm_add (fun g f p0 p1 p2 => by (try simp only [p0, p1, p2]) <;> omega))
                    have h : Wd D B s (h4C dA ho st fi bl wo u ++ ([(dg, bar dA 32 gd), (pk, .inr (1, [.ref b2, .int (nI bd.length)])), (b2, bar dA (gro cap bd.length) g2)] ++ ([(o1, .inr (11, [.ref rb, .int (nI lw.length), .int (nI n2), .int (nI nx), .int (nI k2), .ref q0, .ref pk]))] ++ (ringW dA e0 (ra, lm, lx) Rg ++ (O ++ (F ++ ((E ++ E1) ++ E8))))))) H locs := h
                    have hft : FaultIn ([(o1, .inr (11, [.ref rb, .int (nI lw.length), .int (nI n2), .int (nI nx), .int (nI k2), .ref q0, .ref pk]))] ++ (ringW dA e0 (ra, lm, lx) Rg ++ (O ++ (F ++ ((E ++ E1) ++ E8))))) q8 (tellN kr lw.length) := by
                      unfold tellN
                      rw [hkn9, if_neg (m1_ne (by omega))]
                      exact hux.up (fun z hz => List.mem_append_right _ (List.mem_append_right _ (List.mem_append_right _ (List.mem_append_right _ (List.mem_append_right _ hz)))))
                    have hk0 : kr.1 = 0 → kr.2.2.2 = 0 := fun q9 => by rw [hkn9] at q9; exact absurd q9 (m1_ne (by omega))
                    subst hQ
                    exact thr_out C hex hlocks h (q8, u, gd, (b2, gro cap bd.length, g2, bd), [(o1, .inr (11, [.ref rb, .int (nI lw.length), .int (nI n2), .int (nI nx), .int (nI k2), .ref q0, .ref pk]))] ++ (ringW dA e0 (ra, lm, lx) Rg ++ (O ++ (F ++ ((E ++ E1) ++ E8))))) rfl rfl (⟨⟨hgd, hgb, hsr2, hgc.1, hgc.2⟩, hft, fun x9 hx9 => List.mem_append_right _ (List.mem_append_right _ (memOE hx9)), hk0⟩) rfl hce9 hcv9 hcl9 (by omega) (by omega)
                  exact hu.elim
                · have h0b : 0 < bd.length := by omega
                  rcases Bool.eq_false_or_eq_true (oursL bd) with hou | hou
                  · rcases Bool.eq_false_or_eq_true (sealOk bd) with hso | hso
                    · have h12 := (sealOk_len hbd hso).1
                      refine call_S (As := [.ref o1]) (rest := []) (n := 1) C h (c1_sealY l D dA B Z hZ ([(o1, .inr (11, [.ref rb, .int (nI lw.length), .int (nI n2), .int (nI nx), .int (nI k2), .ref q0, .ref pk])), (ho, .inr (2, [.ref st, .ref fi, .ref bl, .long u.1, .ref wo])), (st, war dA 5 u.2.1), (wo, war dA 80 u.2.2.1), (bl, bar dA 64 u.2.2.2.2), (dg, bar dA 32 gd), (pk, .inr (1, [.ref b2, .int (nI bd.length)])), (b2, bar dA (gro cap bd.length) g2)] ++ (ringW dA e0 (ra, lm, lx) Rg ++ (O ++ (F ++ (E ++ E1))))) o1 rb lw.length n2 nx k2 pk q0 bd (List.mem_of_getElem? (i := 0) rfl) (List.mem_append_right _ (List.mem_append_right _ (List.mem_append_right _ hq2))) hbd hbl h0b hou hso) (lw_S q1291 q1292 q129 q1293) (by decide +kernel) (by decide) (by decide) rfl hl rfl (Nat.le_of_ble_eq_true rfl) dX1_readKeys_258 (by omega) (fun u8 H locs hu8 h => ?_)
                      obtain ⟨se, E3⟩ := u8
                      obtain ⟨hS0, hfr3⟩ := hu8
                      dsimp only at hS0 hfr3 h
                      have h : Wd D B s ([(o1, .inr (11, [.ref rb, .int (nI lw.length), .int (nI n2), .int (nI nx), .int (nI k2), .ref q0, .ref pk])), (ho, .inr (2, [.ref st, .ref fi, .ref bl, .long u.1, .ref wo])), (st, war dA 5 u.2.1), (wo, war dA 80 u.2.2.1), (bl, bar dA 64 u.2.2.2.2), (dg, bar dA 32 gd), (pk, .inr (1, [.ref b2, .int (nI bd.length)])), (b2, bar dA (gro cap bd.length) g2)] ++ (ringW dA e0 (ra, lm, lx) Rg ++ (O ++ (F ++ ((E ++ E1) ++ E3))))) H locs := h.permL (perm_add (fun g f p0 p1 p2 => by (try simp only [p0, p1, p2]) <;> omega))
                      have hS : SealIn dA (F ++ ((E ++ E1) ++ E3)) (se, bd) 0 := by
                        have hm : ∀ z ∈ [(q0, bal dA bd)] ++ E3, z ∈ (F ++ ((E ++ E1) ++ E3)) := by
                          intro z hz
                          rcases List.mem_append.mp hz with y | y
                          · rw [List.mem_singleton.mp y, ← List.append_assoc]; exact List.mem_append_left _ hq2
                          · exact List.mem_append_right _ (List.mem_append_right _ y)
                        exact hS0.sub (fun b q hq => hm _ hq) (fun a fs hq => hm _ hq)
                      have hfr2 : ∀ y, (se, y) ∈ F ++ (E ++ E1) → False := fun y hy => hfr3 y (List.mem_append_right _ (List.mem_append_right _ (List.mem_append_right _ hy)))
                      show W p l e R s m args below meth c H locs (cc + 0 + (rC cap bd.length + 1) + 0 + (bd.length / 2 + 3)) (cs + 0 + (rS cap bd.length + bd.length) + 0 + (5 * bd.length + 22)) Q (F0 m 261 ls [.ref se])
                      have hSc := hS
                      obtain ⟨_, _, _, _, _, _, _, _, _, hscell, _⟩ := hSc
                      dsimp only at hscell
                      have hkw : ∀ z ∈ kyW dA e0 k, z ∈ [(o1, .inr (11, [.ref rb, .int (nI lw.length), .int (nI n2), .int (nI nx), .int (nI k2), .ref q0, .ref pk])), (ho, .inr (2, [.ref st, .ref fi, .ref bl, .long u.1, .ref wo])), (st, war dA 5 u.2.1), (wo, war dA 80 u.2.2.1), (bl, bar dA 64 u.2.2.2.2), (dg, bar dA 32 gd), (pk, .inr (1, [.ref b2, .int (nI bd.length)])), (b2, bar dA (gro cap bd.length) g2)] ++ (ringW dA e0 (ra, lm, lx) Rg ++ (O ++ (F ++ ((E ++ E1) ++ E3)))) := fun z hz => List.mem_append_right _ (List.mem_append_left _ (ky_ring (List.mem_of_getElem? hik) hz))
                      have hrt : ∀ z ∈ (F ++ ((E ++ E1) ++ E3)), z ∈ [(o1, .inr (11, [.ref rb, .int (nI lw.length), .int (nI n2), .int (nI nx), .int (nI k2), .ref q0, .ref pk])), (ho, .inr (2, [.ref st, .ref fi, .ref bl, .long u.1, .ref wo])), (st, war dA 5 u.2.1), (wo, war dA 80 u.2.2.1), (bl, bar dA 64 u.2.2.2.2), (dg, bar dA 32 gd), (pk, .inr (1, [.ref b2, .int (nI bd.length)])), (b2, bar dA (gro cap bd.length) g2)] ++ (ringW dA e0 (ra, lm, lx) Rg ++ (O ++ (F ++ ((E ++ E1) ++ E3)))) := fun z hz => List.mem_append_right _ (List.mem_append_right _ (List.mem_append_right _ hz))
                      have hkS3 : KyS dA cx (F ++ ((E ++ E1) ++ E3)) k := hkS.sub (fun z hz => by rw [← List.append_assoc]; exact List.mem_append_left _ hz)
                      have hSO : SlOk dA (F ++ ((E ++ E1) ++ E3)) k.2.2.1.1 k.2.2.1.2 := hkS3.1.2.1
                      have hLI : LIn dA e0 ([(o1, .inr (11, [.ref rb, .int (nI lw.length), .int (nI n2), .int (nI nx), .int (nI k2), .ref q0, .ref pk])), (ho, .inr (2, [.ref st, .ref fi, .ref bl, .long u.1, .ref wo])), (st, war dA 5 u.2.1), (wo, war dA 80 u.2.2.1), (bl, bar dA 64 u.2.2.2.2), (dg, bar dA 32 gd), (pk, .inr (1, [.ref b2, .int (nI bd.length)])), (b2, bar dA (gro cap bd.length) g2)] ++ (ringW dA e0 (ra, lm, lx) Rg ++ (O ++ (F ++ ((E ++ E1) ++ E3))))) k.2.2.1.1 (k.2.2.1.2.map Prod.fst) := (hSO.sub hrt).lin (KyIn.sw hkw)
                      have hoc : kyc k ∈ [(o1, .inr (11, [.ref rb, .int (nI lw.length), .int (nI n2), .int (nI nx), .int (nI k2), .ref q0, .ref pk])), (ho, .inr (2, [.ref st, .ref fi, .ref bl, .long u.1, .ref wo])), (st, war dA 5 u.2.1), (wo, war dA 80 u.2.2.1), (bl, bar dA 64 u.2.2.2.2), (dg, bar dA 32 gd), (pk, .inr (1, [.ref b2, .int (nI bd.length)])), (b2, bar dA (gro cap bd.length) g2)] ++ (ringW dA e0 (ra, lm, lx) Rg ++ (O ++ (F ++ ((E ++ E1) ++ E3)))) := hkw _ kyc_in
                      obtain ⟨ed9, hcl9⟩ := hLI.cell
                      have hSs : ∀ y ∈ k.2.2.1.2, SealB dA ([(o1, .inr (11, [.ref rb, .int (nI lw.length), .int (nI n2), .int (nI nx), .int (nI k2), .ref q0, .ref pk])), (ho, .inr (2, [.ref st, .ref fi, .ref bl, .long u.1, .ref wo])), (st, war dA 5 u.2.1), (wo, war dA 80 u.2.2.1), (bl, bar dA 64 u.2.2.2.2), (dg, bar dA 32 gd), (pk, .inr (1, [.ref b2, .int (nI bd.length)])), (b2, bar dA (gro cap bd.length) g2)] ++ (ringW dA e0 (ra, lm, lx) Rg ++ (O ++ (F ++ ((E ++ E1) ++ E3))))) y := fun y hy => (hSO.2.2.2 y hy).sub hrt
                      have hSz : SealB dA ([(o1, .inr (11, [.ref rb, .int (nI lw.length), .int (nI n2), .int (nI nx), .int (nI k2), .ref q0, .ref pk])), (ho, .inr (2, [.ref st, .ref fi, .ref bl, .long u.1, .ref wo])), (st, war dA 5 u.2.1), (wo, war dA 80 u.2.2.1), (bl, bar dA 64 u.2.2.2.2), (dg, bar dA 32 gd), (pk, .inr (1, [.ref b2, .int (nI bd.length)])), (b2, bar dA (gro cap bd.length) g2)] ++ (ringW dA e0 (ra, lm, lx) Rg ++ (O ++ (F ++ ((E ++ E1) ++ E3))))) (se, bd) := SealB.sub ⟨0, hS⟩ hrt
                      refine lv_astore (lv' := [(10, .ref se), (9, .null), (8, .int (nI 0)), (7, .int (nI 0)), (0, .ref me), (1, .ref ra), (2, .ref ro), (3, .ref o1), (4, .ref k.1), (5, .ref k.1), (6, .int (nI many))]) hx hb dX1_readKeys_261 hl (by decide) rfl (fun ls hl => ?_)
                      refine lv_aload hx hb dX1_readKeys_263 (lv_at hl 0 rfl) ?_
                      refine lv_ifnull hx hb dX1_readKeys_265 ?_
                      refine lv_aload hx hb dX1_readKeys_268 (lv_at hl 9 rfl) ?_
                      refine lv_aload hx hb dX1_readKeys_270 (lv_at hl 0 rfl) ?_
                      have hlat : latQ (kcK k) ca cj = k.2.2.1.2.map Prod.snd := by unfold latQ; rw [if_pos hc0]; rfl
                      refine call_U (As := [.ref se]) (rest := []) (n := 1) C h (c8_hasX9 l D dA B Z hZ _ k.1 k.2.1.1 k.2.2.2.1.1.1 k.2.2.2.2.1.1 e0 k.2.2.1.1 k.2.2.1.2 (se, bd) hoc hLI hSs hSz) (lw_U q1406 q1408 q1409 q1407 q141 q1412) rfl (by decide +kernel) (o_recv C h (RC := RX9) (T := TX9) (N := 4) (hoc) rfl) (by decide) (by decide) rfl hl rfl (Nat.le_of_ble_eq_true rfl) dX1_readKeys_272 (by omega) (fun _ H locs _ h => ?_)
                      have h : Wd D B s ([(o1, .inr (11, [.ref rb, .int (nI lw.length), .int (nI n2), .int (nI nx), .int (nI k2), .ref q0, .ref pk])), (ho, .inr (2, [.ref st, .ref fi, .ref bl, .long u.1, .ref wo])), (st, war dA 5 u.2.1), (wo, war dA 80 u.2.2.1), (bl, bar dA 64 u.2.2.2.2), (dg, bar dA 32 gd), (pk, .inr (1, [.ref b2, .int (nI bd.length)])), (b2, bar dA (gro cap bd.length) g2)] ++ (ringW dA e0 (ra, lm, lx) Rg ++ (O ++ (F ++ ((E ++ E1) ++ E3))))) H locs := h
                      refine z_if_eq (tgt := 281) hx hb dX1_readKeys_275 (by decide) (fun c275 => ?_) (fun c275 => ?_)
                      · refine lv_aload hx hb dX1_readKeys_281 (lv_at hl 9 rfl) ?_
                        refine o_get C h (RC := RX9) (T := TX9) (N := 4) (hoc) rfl in_X9 0 (by decide) q411 rfl (v := .ref k.2.2.1.1.1) rfl dX1_readKeys_283 ?_
                        refine call_VR (As := []) (rest := []) (n := 0) C h (cA_size l D dA B Z hZ _ e0 k.2.2.1.1 _ hLI) (lw_V q360 q361 q362 q133 q363) (by decide +kernel) (o_recv C h (RC := RJ2) (T := TJ2) (N := 3) (hcl9) rfl) (by decide) (by decide) rfl hl rfl (Nat.le_of_ble_eq_true rfl) dX1_readKeys_286 (by omega) (fun _ H locs _ h => ?_)
                        have h : Wd D B s ([(o1, .inr (11, [.ref rb, .int (nI lw.length), .int (nI n2), .int (nI nx), .int (nI k2), .ref q0, .ref pk])), (ho, .inr (2, [.ref st, .ref fi, .ref bl, .long u.1, .ref wo])), (st, war dA 5 u.2.1), (wo, war dA 80 u.2.2.1), (bl, bar dA 64 u.2.2.2.2), (dg, bar dA 32 gd), (pk, .inr (1, [.ref b2, .int (nI bd.length)])), (b2, bar dA (gro cap bd.length) g2)] ++ (ringW dA e0 (ra, lm, lx) Rg ++ (O ++ (F ++ ((E ++ E1) ++ E3))))) H locs := h
                        rw [List.length_map]
                        refine lv_bipush (v := nI 16) hx hb dX1_readKeys_289 (by decide) ?_
                        have h166 := hSO.2.2.1
                        refine n_icmp_ne (tgt := 299) hx hb (by omega) (by omega) dX1_readKeys_291 (by decide) (fun c291 => ?_) (fun c291 => ?_)
                        · refine lv_aload hx hb dX1_readKeys_299 (lv_at hl 9 rfl) ?_
                          refine o_get C h (RC := RX9) (T := TX9) (N := 4) (hoc) rfl in_X9 0 (by decide) q411 rfl (v := .ref k.2.2.1.1.1) rfl dX1_readKeys_301 ?_
                          refine lv_aload hx hb dX1_readKeys_304 (lv_at hl 0 rfl) ?_
                          obtain ⟨Y9, hY1, hY2⟩ := addK_perm (dA := dA) (e0 := e0) (rl := (ra, lm, lx)) hik
                          have h : Wd D B s (ringW dA e0 (ra, lm, lx) Rg ++ (([(o1, .inr (11, [.ref rb, .int (nI lw.length), .int (nI n2), .int (nI nx), .int (nI k2), .ref q0, .ref pk])), (ho, .inr (2, [.ref st, .ref fi, .ref bl, .long u.1, .ref wo])), (st, war dA 5 u.2.1), (wo, war dA 80 u.2.2.1), (bl, bar dA 64 u.2.2.2.2), (dg, bar dA 32 gd), (pk, .inr (1, [.ref b2, .int (nI bd.length)])), (b2, bar dA (gro cap bd.length) g2)] ++ O) ++ (F ++ ((E ++ E1) ++ E3)))) H locs := h.permL (perm_add (fun g f p0 p1 p2 => by (try simp only [p0, p1, p2]) <;> omega))
                          refine call_VR (As := [.ref se]) (rest := []) (n := 1) C h (cR_add l D dA B Z hZ (ringW dA e0 (ra, lm, lx) Rg) Y9 ([(o1, .inr (11, [.ref rb, .int (nI lw.length), .int (nI n2), .int (nI nx), .int (nI k2), .ref q0, .ref pk])), (ho, .inr (2, [.ref st, .ref fi, .ref bl, .long u.1, .ref wo])), (st, war dA 5 u.2.1), (wo, war dA 80 u.2.2.1), (bl, bar dA 64 u.2.2.2.2), (dg, bar dA 32 gd), (pk, .inr (1, [.ref b2, .int (nI bd.length)])), (b2, bar dA (gro cap bd.length) g2)] ++ O) (F ++ ((E ++ E1) ++ E3)) e0 mi k.2.2.1.1 k.2.2.1.2 (se, bd) _ hzs hza hY1 hSO hscell (by omega)) (lw_V q548 q518 q519 q133 q520) (by decide +kernel) (o_recv C h (RC := RJ2) (T := TJ2) (N := 3) (List.mem_append_left _ (hY1.mem_iff.mpr (List.mem_append_left _ (lW_cell dA e0 k.2.2.1.1 k.2.2.1.2.length).choose_spec))) rfl) (by decide) (by decide) rfl hl rfl (Nat.le_of_ble_eq_true rfl) dX1_readKeys_306 (by omega) (fun u8 H locs hu8 h => ?_)
                          obtain ⟨⟨xa9, xm9, xx9⟩, E4⟩ := u8
                          obtain ⟨hxa, hAL9⟩ := hu8
                          dsimp only at hxa hAL9 h
                          obtain ⟨k8, hk8⟩ : ∃ z, z = kS k (xa9, xm9, xx9) (k.2.2.1.2 ++ [(se, bd)]) := ⟨_, rfl⟩
                          obtain ⟨R9, hR9⟩ : ∃ z, z = Rg.set ci k8 := ⟨_, rfl⟩
                          have hY3 := hY2 (xa9, xm9, xx9) (se, bd) hxa
                          rw [← hk8, ← hR9] at hY3
                          have h : Wd D B s (ringW dA e0 (ra, lm, lx) R9 ++ (([(o1, .inr (11, [.ref rb, .int (nI lw.length), .int (nI n2), .int (nI nx), .int (nI k2), .ref q0, .ref pk])), (ho, .inr (2, [.ref st, .ref fi, .ref bl, .long u.1, .ref wo])), (st, war dA 5 u.2.1), (wo, war dA 80 u.2.2.1), (bl, bar dA 64 u.2.2.2.2), (dg, bar dA 32 gd), (pk, .inr (1, [.ref b2, .int (nI bd.length)])), (b2, bar dA (gro cap bd.length) g2)] ++ O) ++ ((F ++ ((E ++ E1) ++ E3)) ++ E4))) H locs := h.permL (hY3.append_right _)
                          have h : Wd D B s ([(o1, .inr (11, [.ref rb, .int (nI lw.length), .int (nI n2), .int (nI nx), .int (nI k2), .ref q0, .ref pk])), (ho, .inr (2, [.ref st, .ref fi, .ref bl, .long u.1, .ref wo])), (st, war dA 5 u.2.1), (wo, war dA 80 u.2.2.1), (bl, bar dA 64 u.2.2.2.2), (dg, bar dA 32 gd), (pk, .inr (1, [.ref b2, .int (nI bd.length)])), (b2, bar dA (gro cap bd.length) g2)] ++ (ringW dA e0 (ra, lm, lx) R9 ++ (O ++ (F ++ (((E ++ E1) ++ E3) ++ E4))))) H locs := h.permL (perm_add (fun g f p0 p1 p2 => by (try simp only [p0, p1, p2]) <;> omega))
                          have hse0 : ∀ z ∈ (F ++ ((E ++ E1) ++ E3)), z ∈ (F ++ (((E ++ E1) ++ E3) ++ E4)) := fun z hz => by rw [← List.append_assoc]; exact List.mem_append_left _ hz
                          have hRg3 : RgS dA (cxA cx se (keyMsg k.2.1.2.1, k.2.1.2.1)) (F ++ (((E ++ E1) ++ E3) ++ E4)) (ra, lm, lx) R9 := by
                            have z0 : RgS dA (cxA cx se (keyMsg k.2.1.2.1, k.2.1.2.1)) (F ++ (E ++ E1)) (ra, lm, lx) Rg := hRg1.cx hfr2
                            have z : RgS dA (cxA cx se (keyMsg k.2.1.2.1, k.2.1.2.1)) (F ++ (((E ++ E1) ++ E3) ++ E4)) (ra, lm, lx) Rg := z0.sub (fun y hy => hse0 y (by rw [← List.append_assoc]; exact List.mem_append_left _ hy))
                            have zk := z.2 k (List.mem_of_getElem? hik)
                            have hS9 : SealIn dA (F ++ (((E ++ E1) ++ E3) ++ E4)) (se, bd) 0 := hS.sub (fun b q hq => hse0 _ hq) (fun a fs hq => hse0 _ hq)
                            have hST9 : SealT dA (cxA cx se (keyMsg k.2.1.2.1, k.2.1.2.1)) (F ++ (((E ++ E1) ++ E3) ++ E4)) (se, bd) := ⟨0, hS9, Or.inl rfl⟩
                            have hSO9 : SlOk dA (F ++ (((E ++ E1) ++ E3) ++ E4)) (xa9, xm9, xx9) (k.2.2.1.2 ++ [(se, bd)]) := hSO.snoc hse0 hAL9 (by omega) ⟨0, hS9⟩
                            rw [hR9, hk8]
                            exact z.set hik rfl (zk.addK hSO9 hST9 cxA_eq)
                          have hcx3 : ∀ a y, (a, y) ∈ F → (cxA cx se (keyMsg k.2.1.2.1, k.2.1.2.1)) a = cx0 a := fun a y hy => by
                            have hne : a ≠ se := fun q => hfr2 y (by rw [← q]; exact List.mem_append_left _ hy)
                            rw [cxA_ne hne]; exact hcx a y hy
                          have hcur3 : CurA R9 (some (ci, ca, cj)) (some k.1) (some k.1) := ⟨k8, by rw [hR9]; exact List.getElem?_set_self (List.getElem?_eq_some_iff.mp hik).1, by rw [hk8]; rfl, Or.inl ⟨hc0, by rw [hk8]; rfl⟩⟩
                          have hadd : addN (kcK k) ca cj bd = kcK k8 := by unfold addN; rw [if_pos hc0, hk8]; unfold kcK kS; dsimp only; rw [List.map_append]; rfl
                          have hp3 : pkN (Rg.map kcK, some (ci, ca, cj), many) k2 bd = some (R9.map kcK, some (ci, ca, cj), many) := by rw [hun]; unfold undN; rw [if_neg (by omega), if_neg (by omega), if_pos hk]; show sealN2 _ ci ca cj (kcK k) bd = _; unfold sealN2; rw [if_neg (by omega), if_neg (by rw [hou]; decide), if_neg (by rw [hso]; decide), hlat, map_any, if_neg (by rw [c275]; decide), List.length_map, if_neg (by omega), hadd, hR9]; show some ((Rg.map kcK).set ci (kcK k8), _) = _; rw [set_map (y := k8) rfl]
                          refine lv_pop hx hb dX1_readKeys_309 rfl ?_
                          refine lv_goto (tgt := 22) hx hb dX1_readKeys_310 (by decide) ?_
                          exact ih n2 nx k2 (some q0) b2 (gro cap bd.length) g2 bd u gd lm lx R9 (cxA cx se (keyMsg k.2.1.2.1, k.2.1.2.1)) (some (ci, ca, cj)) (some k.1) (some k.1) many (fu - 1) (((E ++ E1) ++ E3) ++ E4) _ _ hadv.1 hsr2 hgc.1 hgc.2 hgb hgd hRg3 hcx3 hcur3 (hkn.trans (keysN_go hnl hfu0 hpk9 hp3)) (by omega) (by omega) (by (try dsimp only) <;> omega) (by (try dsimp only) <;> omega) (by omega) _ _ h _ (lv_sub hl [4, 5, 6, 7, 8, 9, 10] rfl)
                        · refine lv_aload_n hx hb dX1_readKeys_294 rfl (lv_at hl 7 rfl) ?_
                          refine call_VR (As := []) (rest := []) (n := 0) C h (c14_fault l D dA B Z hZ _ o1 rb lw.length n2 nx k2 pk (some q0) hlt hzx (List.mem_of_getElem? (i := 0) rfl)) (lw_V q1088 q1064 q1065 q162 q1066) (by decide +kernel) (o_recv C h (RC := RX14) (T := TX14) (N := 7) (List.mem_of_getElem? (i := 0) rfl) rfl) (by decide) (by decide) rfl hl rfl (Nat.le_of_ble_eq_true rfl) dX1_readKeys_295 (by omega) (fun u8 H locs _ h => ?_)
                          obtain ⟨q9, x9⟩ := u8
                          have h : Wd D B s ([(q9, .inr (10, fts x9 (-1 - nI nx))), (o1, .inr (11, [.ref rb, .int (nI lw.length), .int (nI n2), .int (nI nx), .int (nI k2), .ref q0, .ref pk])), (ho, .inr (2, [.ref st, .ref fi, .ref bl, .long u.1, .ref wo])), (st, war dA 5 u.2.1), (wo, war dA 80 u.2.2.1), (bl, bar dA 64 u.2.2.2.2), (dg, bar dA 32 gd), (pk, .inr (1, [.ref b2, .int (nI bd.length)])), (b2, bar dA (gro cap bd.length) g2)] ++ (ringW dA e0 (ra, lm, lx) Rg ++ (O ++ (F ++ ((E ++ E1) ++ E3))))) H locs := h
                          subst hQ
                          have hkn9 := hkn.trans (keysN_bad hnl hfu0 hpk9 (by rw [hun]; unfold undN; rw [if_neg (by omega), if_neg (by omega), if_pos hk]; show sealN2 _ ci ca cj (kcK k) bd = _; unfold sealN2; rw [if_neg (by omega), if_neg (by rw [hou]; decide), if_neg (by rw [hso]; decide), hlat, map_any, if_neg (by rw [c275]; decide), List.length_map, if_pos (by omega)]))
                          have h : Wd D B s ([(ho, .inr (2, [.ref st, .ref fi, .ref bl, .long u.1, .ref wo])), (st, war dA 5 u.2.1), (wo, war dA 80 u.2.2.1), (bl, bar dA 64 u.2.2.2.2)] ++ ([(dg, bar dA 32 gd), (pk, .inr (1, [.ref b2, .int (nI bd.length)])), (b2, bar dA (gro cap bd.length) g2)] ++ ([(q9, .inr (10, fts x9 (-1 - nI nx)))] ++ ([(o1, .inr (11, [.ref rb, .int (nI lw.length), .int (nI n2), .int (nI nx), .int (nI k2), .ref q0, .ref pk]))] ++ (ringW dA e0 (ra, lm, lx) Rg ++ (O ++ (F ++ ((E ++ E1) ++ E3)))))))) H locs := h.permL (perm_add (fun g f p0 p1 p2 => by (try simp only [p0, p1, p2]) <;> omega))
                          have h : Wd D B s (h4C dA ho st fi bl wo u ++ ([(dg, bar dA 32 gd), (pk, .inr (1, [.ref b2, .int (nI bd.length)])), (b2, bar dA (gro cap bd.length) g2)] ++ ([(q9, .inr (10, fts x9 (-1 - nI nx)))] ++ ([(o1, .inr (11, [.ref rb, .int (nI lw.length), .int (nI n2), .int (nI nx), .int (nI k2), .ref q0, .ref pk]))] ++ (ringW dA e0 (ra, lm, lx) Rg ++ (O ++ (F ++ ((E ++ E1) ++ E3)))))))) H locs := h
                          have hft : FaultIn ([(q9, .inr (10, fts x9 (-1 - nI nx)))] ++ ([(o1, .inr (11, [.ref rb, .int (nI lw.length), .int (nI n2), .int (nI nx), .int (nI k2), .ref q0, .ref pk]))] ++ (ringW dA e0 (ra, lm, lx) Rg ++ (O ++ (F ++ ((E ++ E1) ++ E3)))))) q9 (tellN kr lw.length) := by
                            unfold tellN
                            rw [hkn9, if_neg (m1_ne (by omega))]
                            exact ⟨x9, List.mem_append_left _ List.mem_cons_self⟩
                          have hk0 : kr.1 = 0 → kr.2.2.2 = 0 := fun q9 => by rw [hkn9] at q9; exact absurd q9 (m1_ne (by omega))
                          exact x_athrow C hex hlocks h (List.mem_append_right _ (List.mem_append_right _ (List.mem_append_left _ List.mem_cons_self))) rfl (q9, u, gd, (b2, gro cap bd.length, g2, bd), [(q9, .inr (10, fts x9 (-1 - nI nx)))] ++ ([(o1, .inr (11, [.ref rb, .int (nI lw.length), .int (nI n2), .int (nI nx), .int (nI k2), .ref q0, .ref pk]))] ++ (ringW dA e0 (ra, lm, lx) Rg ++ (O ++ (F ++ ((E ++ E1) ++ E3)))))) rfl rfl (⟨⟨hgd, hgb, hsr2, hgc.1, hgc.2⟩, hft, fun x9 hx9 => List.mem_append_right _ (List.mem_append_right _ (List.mem_append_right _ (memOE hx9))), hk0⟩) rfl (by omega) (by omega) dX1_readKeys_298
                      · have hp3 : pkN (Rg.map kcK, some (ci, ca, cj), many) k2 bd = some (Rg.map kcK, some (ci, ca, cj), many) := by rw [hun]; unfold undN; rw [if_neg (by omega), if_neg (by omega), if_pos hk]; show sealN2 _ ci ca cj (kcK k) bd = _; unfold sealN2; rw [if_neg (by omega), if_neg (by rw [hou]; decide), if_neg (by rw [hso]; decide), hlat, map_any, if_pos c275]
                        have hcur3 : CurA Rg (some (ci, ca, cj)) (some k.1) (some k.1) := ⟨k, hik, rfl, Or.inl ⟨hc0, rfl⟩⟩
                        have hRg3 : RgS dA cx (F ++ ((E ++ E1) ++ E3)) (ra, lm, lx) Rg := hRg1.sub (fun z hz => by rw [← List.append_assoc]; exact List.mem_append_left _ hz)
                        refine lv_goto (tgt := 22) hx hb dX1_readKeys_278 (by decide) ?_
                        exact ih n2 nx k2 (some q0) b2 (gro cap bd.length) g2 bd u gd lm lx Rg cx (some (ci, ca, cj)) (some k.1) (some k.1) many (fu - 1) ((E ++ E1) ++ E3) _ _ hadv.1 hsr2 hgc.1 hgc.2 hgb hgd hRg3 hcx hcur3 (hkn.trans (keysN_go hnl hfu0 hpk9 hp3)) (by omega) (by omega) (by (try dsimp only) <;> omega) (by (try dsimp only) <;> omega) (by omega) _ _ h _ (lv_sub hl [4, 5, 6, 7, 8, 9, 10] rfl)
                    · refine call_SX (As := [.ref o1]) (rest := []) (n := 1) C h (c1_sealX l D dA B Z hZ ([(o1, .inr (11, [.ref rb, .int (nI lw.length), .int (nI n2), .int (nI nx), .int (nI k2), .ref q0, .ref pk])), (ho, .inr (2, [.ref st, .ref fi, .ref bl, .long u.1, .ref wo])), (st, war dA 5 u.2.1), (wo, war dA 80 u.2.2.1), (bl, bar dA 64 u.2.2.2.2), (dg, bar dA 32 gd), (pk, .inr (1, [.ref b2, .int (nI bd.length)])), (b2, bar dA (gro cap bd.length) g2)] ++ (ringW dA e0 (ra, lm, lx) Rg ++ (O ++ (F ++ (E ++ E1))))) o1 rb lw.length n2 nx k2 pk q0 bd hlt hzx (List.mem_of_getElem? (i := 0) rfl) (List.mem_append_right _ (List.mem_append_right _ (List.mem_append_right _ hq2))) hbd hbl (Or.inr ⟨hou, hso⟩)) (lw_S q1291 q1292 q129 q1293) (by decide +kernel) (by decide) (by decide) rfl hl rfl (Nat.le_of_ble_eq_true rfl) dX1_readKeys_258 (by omega) (fun ux ce9 H locs hux h hce9 hcv9 hcl9 => ?_) (fun _ H locs hu h => ?_)
                      · obtain ⟨q8, E8⟩ := ux
                        dsimp only at hux h
                        have hkn9 := hkn.trans (keysN_bad hnl hfu0 hpk9 (by rw [hun]; unfold undN; rw [if_neg (by omega), if_neg (by omega), if_pos hk]; show sealN2 _ ci ca cj (kcK k) bd = _; unfold sealN2; rw [if_neg (by omega), if_neg (by rw [hou]; decide), if_pos hso]))
                        have h : Wd D B s ([(ho, .inr (2, [.ref st, .ref fi, .ref bl, .long u.1, .ref wo])), (st, war dA 5 u.2.1), (wo, war dA 80 u.2.2.1), (bl, bar dA 64 u.2.2.2.2)] ++ ([(dg, bar dA 32 gd), (pk, .inr (1, [.ref b2, .int (nI bd.length)])), (b2, bar dA (gro cap bd.length) g2)] ++ ([(o1, .inr (11, [.ref rb, .int (nI lw.length), .int (nI n2), .int (nI nx), .int (nI k2), .ref q0, .ref pk]))] ++ (ringW dA e0 (ra, lm, lx) Rg ++ (O ++ (F ++ ((E ++ E1) ++ E8))))))) H locs := h.permL (perm_add (fun g f p0 p1 p2 => by (try simp only [p0, p1, p2]) <;> omega))
                        have h : Wd D B s (h4C dA ho st fi bl wo u ++ ([(dg, bar dA 32 gd), (pk, .inr (1, [.ref b2, .int (nI bd.length)])), (b2, bar dA (gro cap bd.length) g2)] ++ ([(o1, .inr (11, [.ref rb, .int (nI lw.length), .int (nI n2), .int (nI nx), .int (nI k2), .ref q0, .ref pk]))] ++ (ringW dA e0 (ra, lm, lx) Rg ++ (O ++ (F ++ ((E ++ E1) ++ E8))))))) H locs := h
                        have hft : FaultIn ([(o1, .inr (11, [.ref rb, .int (nI lw.length), .int (nI n2), .int (nI nx), .int (nI k2), .ref q0, .ref pk]))] ++ (ringW dA e0 (ra, lm, lx) Rg ++ (O ++ (F ++ ((E ++ E1) ++ E8))))) q8 (tellN kr lw.length) := by
                          unfold tellN
                          rw [hkn9, if_neg (m1_ne (by omega))]
                          exact hux.up (fun z hz => List.mem_append_right _ (List.mem_append_right _ (List.mem_append_right _ (List.mem_append_right _ (List.mem_append_right _ hz)))))
                        have hk0 : kr.1 = 0 → kr.2.2.2 = 0 := fun q9 => by rw [hkn9] at q9; exact absurd q9 (m1_ne (by omega))
                        subst hQ
                        exact thr_out C hex hlocks h (q8, u, gd, (b2, gro cap bd.length, g2, bd), [(o1, .inr (11, [.ref rb, .int (nI lw.length), .int (nI n2), .int (nI nx), .int (nI k2), .ref q0, .ref pk]))] ++ (ringW dA e0 (ra, lm, lx) Rg ++ (O ++ (F ++ ((E ++ E1) ++ E8))))) rfl rfl (⟨⟨hgd, hgb, hsr2, hgc.1, hgc.2⟩, hft, fun x9 hx9 => List.mem_append_right _ (List.mem_append_right _ (memOE hx9)), hk0⟩) rfl hce9 hcv9 hcl9 (by omega) (by omega)
                      exact hu.elim
                  · refine call_S (As := [.ref o1]) (rest := []) (n := 1) C h (c1_sealZ l D dA B Z hZ ([(o1, .inr (11, [.ref rb, .int (nI lw.length), .int (nI n2), .int (nI nx), .int (nI k2), .ref q0, .ref pk])), (ho, .inr (2, [.ref st, .ref fi, .ref bl, .long u.1, .ref wo])), (st, war dA 5 u.2.1), (wo, war dA 80 u.2.2.1), (bl, bar dA 64 u.2.2.2.2), (dg, bar dA 32 gd), (pk, .inr (1, [.ref b2, .int (nI bd.length)])), (b2, bar dA (gro cap bd.length) g2)] ++ (ringW dA e0 (ra, lm, lx) Rg ++ (O ++ (F ++ (E ++ E1))))) o1 rb lw.length n2 nx k2 pk q0 bd (List.mem_of_getElem? (i := 0) rfl) (List.mem_append_right _ (List.mem_append_right _ (List.mem_append_right _ hq2))) hbd hbl h0b hou) (lw_S q1291 q1292 q129 q1293) (by decide +kernel) (by decide) (by decide) rfl hl rfl (Nat.le_of_ble_eq_true rfl) dX1_readKeys_258 (by omega) (fun _ H locs _ h => ?_)
                    have hp3 : pkN (Rg.map kcK, some (ci, ca, cj), many) k2 bd = some (Rg.map kcK, some (ci, ca, cj), many) := by rw [hun]; unfold undN; rw [if_neg (by omega), if_neg (by omega), if_pos hk]; show sealN2 _ ci ca cj (kcK k) bd = _; unfold sealN2; rw [if_neg (by omega), if_pos hou]
                    have hcur3 : CurA Rg (some (ci, ca, cj)) (some k.1) (some k.1) := ⟨k, hik, rfl, Or.inl ⟨hc0, rfl⟩⟩
                    refine lv_astoreN (lv' := [(10, .null), (9, .null), (8, .int (nI 0)), (7, .int (nI 0)), (0, .ref me), (1, .ref ra), (2, .ref ro), (3, .ref o1), (4, .ref k.1), (5, .ref k.1), (6, .int (nI many))]) hx hb dX1_readKeys_261 hl (by decide) rfl (fun ls hl => ?_)
                    refine lv_aloadN hx hb dX1_readKeys_263 (lv_at hl 0 rfl) ?_
                    refine lv_ifnullN (tgt := 22) hx hb dX1_readKeys_265 (by decide) ?_
                    exact ih n2 nx k2 (some q0) b2 (gro cap bd.length) g2 bd u gd lm lx Rg cx (some (ci, ca, cj)) (some k.1) (some k.1) many (fu - 1) (E ++ E1) _ _ hadv.1 hsr2 hgc.1 hgc.2 hgb hgd hRg1 hcx hcur3 (hkn.trans (keysN_go hnl hfu0 hpk9 hp3)) (by omega) (by omega) (by (try dsimp only) <;> omega) (by (try dsimp only) <;> omega) (by omega) _ _ h _ (lv_sub hl [4, 5, 6, 7, 8, 9, 10] rfl)
              · obtain ⟨hc0, uu, hju, hlo⟩ := hlt9
                rw [hlo] at hl
                have hl : lv_has ls 11 [(0, .ref me), (1, .ref ra), (2, .ref ro), (3, .ref o1), (4, .ref k.1), (5, .ref uu.1), (6, .int (nI many))] := hl
                refine lv_aload_n hx hb dX1_readKeys_33 rfl (lv_at hl 3 rfl) ?_
                refine call_VR (As := []) (rest := []) (n := 0) C h (c14_isPassed l D dA B Z hZ ([(ho, .inr (2, [.ref st, .ref fi, .ref bl, .long u.1, .ref wo])), (st, war dA 5 u.2.1), (wo, war dA 80 u.2.2.1), (bl, bar dA 64 u.2.2.2.2), (dg, bar dA 32 gd), (pk, .inr (1, [.ref b2, .int (nI bd.length)])), (b2, bar dA (gro cap bd.length) g2)] ++ (ringW dA e0 (ra, lm, lx) Rg ++ (O ++ (F ++ (E ++ E1))))) o1 rb pk lw.length n2 nx k2 (some q0) (by omega)) (lw_V q1084 q1085 q1086 q162 q1087) (by decide +kernel) (o_recv C h (RC := RX14) (T := TX14) (N := 7) (List.mem_of_getElem? (i := 0) rfl) rfl) (by decide) (by decide) rfl hl rfl (Nat.le_of_ble_eq_true rfl) dX1_readKeys_34 (by omega) (fun _ H locs _ h => ?_)
                have h : Wd D B s ([(o1, .inr (11, [.ref rb, .int (nI lw.length), .int (nI n2), .int (nI nx), .int (nI k2), .ref q0, .ref pk])), (ho, .inr (2, [.ref st, .ref fi, .ref bl, .long u.1, .ref wo])), (st, war dA 5 u.2.1), (wo, war dA 80 u.2.2.1), (bl, bar dA 64 u.2.2.2.2), (dg, bar dA 32 gd), (pk, .inr (1, [.ref b2, .int (nI bd.length)])), (b2, bar dA (gro cap bd.length) g2)] ++ (ringW dA e0 (ra, lm, lx) Rg ++ (O ++ (F ++ (E ++ E1))))) H locs := h
                have h : Wd D B s ([(o1, .inr (11, [.ref rb, .int (nI lw.length), .int (nI n2), .int (nI nx), .int (nI k2), .ref q0, .ref pk])), (ho, .inr (2, [.ref st, .ref fi, .ref bl, .long u.1, .ref wo])), (st, war dA 5 u.2.1), (wo, war dA 80 u.2.2.1), (bl, bar dA 64 u.2.2.2.2), (dg, bar dA 32 gd), (pk, .inr (1, [.ref b2, .int (nI bd.length)])), (b2, bar dA (gro cap bd.length) g2)] ++ (ringW dA e0 (ra, lm, lx) Rg ++ (O ++ (F ++ (E ++ E1))))) H locs := h.permL (perm_add (fun g f p0 p1 p2 => by (try simp only [p0, p1, p2]) <;> omega))
                refine z_if_eq (tgt := 43) hx hb dX1_readKeys_37 (by decide) (fun c37 => ?_) (fun c37 => by exfalso; exact hkp (of_decide_eq_true c37))
                refine lv_aload_n hx hb dX1_readKeys_43 rfl (lv_at hl 3 rfl) ?_
                refine o_get C h (RC := RX14) (T := TX14) (N := 7) (List.mem_of_getElem? (i := 0) rfl) rfl in_X14 4 (by decide) q1031 rfl (v := .int (nI k2)) rfl dX1_readKeys_44 ?_
                refine lv_bipush (v := nI 6) hx hb dX1_readKeys_47 (by decide) ?_
                refine n_icmp_eq (tgt := 60) hx hb (by omega) (by omega) dX1_readKeys_49 (by decide) (fun c49 => by exfalso; omega) (fun c49 => ?_)
                refine lv_aload_n hx hb dX1_readKeys_52 rfl (lv_at hl 3 rfl) ?_
                refine o_get C h (RC := RX14) (T := TX14) (N := 7) (List.mem_of_getElem? (i := 0) rfl) rfl in_X14 4 (by decide) q1031 rfl (v := .int (nI k2)) rfl dX1_readKeys_53 ?_
                refine lv_iconst (v := nI 5) hx hb dX1_readKeys_56 (by decide) ?_
                refine n_icmp_ne (tgt := 64) hx hb (by omega) (by omega) dX1_readKeys_57 (by decide) (fun c57 => ?_) (fun c57 => by exfalso; omega)
                refine lv_iconst (v := nI 0) hx hb dX1_readKeys_64 (by decide) ?_
                refine lv_istore (lv' := [(7, .int (nI 0)), (0, .ref me), (1, .ref ra), (2, .ref ro), (3, .ref o1), (4, .ref k.1), (5, .ref uu.1), (6, .int (nI many))]) hx hb dX1_readKeys_65 hl (by decide) rfl (fun ls hl => ?_)
                refine lv_aload_n hx hb dX1_readKeys_67 rfl (lv_at hl 4 rfl) ?_
                refine o_get C h (RC := RX14) (T := TX14) (N := 7) (List.mem_of_getElem? (i := 0) rfl) rfl in_X14 4 (by decide) q1031 rfl (v := .int (nI k2)) rfl dX1_readKeys_68 ?_
                refine lv_bipush (v := nI 14) hx hb dX1_readKeys_71 (by decide) ?_
                refine n_icmp_eq (tgt := 85) hx hb (by omega) (by omega) dX1_readKeys_73 (by decide) (fun c73 => by exfalso; omega) (fun c73 => ?_)
                refine lv_aload_n hx hb dX1_readKeys_76 rfl (lv_at hl 4 rfl) ?_
                refine o_get C h (RC := RX14) (T := TX14) (N := 7) (List.mem_of_getElem? (i := 0) rfl) rfl in_X14 4 (by decide) q1031 rfl (v := .int (nI k2)) rfl dX1_readKeys_77 ?_
                refine lv_bipush (v := nI 7) hx hb dX1_readKeys_80 (by decide) ?_
                refine n_icmp_ne (tgt := 89) hx hb (by omega) (by omega) dX1_readKeys_82 (by decide) (fun c82 => ?_) (fun c82 => by exfalso; omega)
                refine lv_iconst (v := nI 0) hx hb dX1_readKeys_89 (by decide) ?_
                refine lv_istore (lv' := [(8, .int (nI 0)), (7, .int (nI 0)), (0, .ref me), (1, .ref ra), (2, .ref ro), (3, .ref o1), (4, .ref k.1), (5, .ref uu.1), (6, .int (nI many))]) hx hb dX1_readKeys_90 hl (by decide) rfl (fun ls hl => ?_)
                refine lv_iload hx hb dX1_readKeys_92 (lv_at hl 1 rfl) ?_
                refine n_if_ne (tgt := 129) hx hb (by omega) dX1_readKeys_94 (by decide) (fun c94 => by exfalso; omega) (fun c94 => ?_)
                refine lv_aload hx hb dX1_readKeys_97 (lv_at hl 6 rfl) ?_
                refine lv_ifnull hx hb dX1_readKeys_99 ?_
                refine lv_iload hx hb dX1_readKeys_102 (lv_at hl 0 rfl) ?_
                refine n_if_ne (tgt := 129) hx hb (by omega) dX1_readKeys_104 (by decide) (fun c104 => by exfalso; omega) (fun c104 => ?_)
                refine lv_aload_n hx hb dX1_readKeys_107 rfl (lv_at hl 5 rfl) ?_
                refine o_get C h (RC := RX14) (T := TX14) (N := 7) (List.mem_of_getElem? (i := 0) rfl) rfl in_X14 4 (by decide) q1031 rfl (v := .int (nI k2)) rfl dX1_readKeys_108 ?_
                refine lv_iconst (v := nI 2) hx hb dX1_readKeys_111 (by decide) ?_
                refine n_icmp_eq (tgt := 129) hx hb (by omega) (by omega) dX1_readKeys_112 (by decide) (fun c112 => ?_) (fun c112 => by exfalso; omega)
                refine lv_iload hx hb dX1_readKeys_129 (lv_at hl 1 rfl) ?_
                refine n_if_ne (tgt := 139) hx hb (by omega) dX1_readKeys_131 (by decide) (fun c131 => by exfalso; omega) (fun c131 => ?_)
                refine lv_iload hx hb dX1_readKeys_134 (lv_at hl 0 rfl) ?_
                refine n_if_eq (tgt := 172) hx hb (by omega) dX1_readKeys_136 (by decide) (fun c136 => ?_) (fun c136 => by exfalso; omega)
                refine lv_null hx hb dX1_readKeys_172 ?_
                refine lv_astoreN (lv' := [(9, .null), (8, .int (nI 0)), (7, .int (nI 0)), (0, .ref me), (1, .ref ra), (2, .ref ro), (3, .ref o1), (4, .ref k.1), (5, .ref uu.1), (6, .int (nI many))]) hx hb dX1_readKeys_173 hl (by decide) rfl (fun ls hl => ?_)
                refine lv_iload hx hb dX1_readKeys_175 (lv_at hl 2 rfl) ?_
                refine n_if_ne (tgt := 185) hx hb (by omega) dX1_readKeys_177 (by decide) (fun c177 => by exfalso; omega) (fun c177 => ?_)
                refine lv_iload hx hb dX1_readKeys_180 (lv_at hl 1 rfl) ?_
                refine n_if_eq (tgt := 195) hx hb (by omega) dX1_readKeys_182 (by decide) (fun c182 => ?_) (fun c182 => by exfalso; omega)
                refine lv_iload hx hb dX1_readKeys_195 (lv_at hl 2 rfl) ?_
                refine n_if_eq (tgt := 219) hx hb (by omega) dX1_readKeys_197 (by decide) (fun c197 => ?_) (fun c197 => by exfalso; omega)
                refine lv_iload hx hb dX1_readKeys_219 (lv_at hl 1 rfl) ?_
                refine n_if_eq (tgt := 237) hx hb (by omega) dX1_readKeys_221 (by decide) (fun c221 => ?_) (fun c221 => by exfalso; omega)
                refine lv_aload_n hx hb dX1_readKeys_237 rfl (lv_at hl 6 rfl) ?_
                refine o_get C h (RC := RX14) (T := TX14) (N := 7) (List.mem_of_getElem? (i := 0) rfl) rfl in_X14 4 (by decide) q1031 rfl (v := .int (nI k2)) rfl dX1_readKeys_238 ?_
                refine lv_bipush (v := nI 13) hx hb dX1_readKeys_241 (by decide) ?_
                refine n_icmp_ne (tgt := 257) hx hb (by omega) (by omega) dX1_readKeys_243 (by decide) (fun c243 => ?_) (fun c243 => by exfalso; omega)
                refine lv_aload_n hx hb dX1_readKeys_257 rfl (lv_at hl 6 rfl) ?_
                rcases (show bd.length = 0 ∨ ¬ bd.length = 0 by omega) with h0b | h0b
                · refine call_SX (As := [.ref o1]) (rest := []) (n := 1) C h (c1_sealX l D dA B Z hZ ([(o1, .inr (11, [.ref rb, .int (nI lw.length), .int (nI n2), .int (nI nx), .int (nI k2), .ref q0, .ref pk])), (ho, .inr (2, [.ref st, .ref fi, .ref bl, .long u.1, .ref wo])), (st, war dA 5 u.2.1), (wo, war dA 80 u.2.2.1), (bl, bar dA 64 u.2.2.2.2), (dg, bar dA 32 gd), (pk, .inr (1, [.ref b2, .int (nI bd.length)])), (b2, bar dA (gro cap bd.length) g2)] ++ (ringW dA e0 (ra, lm, lx) Rg ++ (O ++ (F ++ (E ++ E1))))) o1 rb lw.length n2 nx k2 pk q0 bd hlt hzx (List.mem_of_getElem? (i := 0) rfl) (List.mem_append_right _ (List.mem_append_right _ (List.mem_append_right _ hq2))) hbd hbl (Or.inl h0b)) (lw_S q1291 q1292 q129 q1293) (by decide +kernel) (by decide) (by decide) rfl hl rfl (Nat.le_of_ble_eq_true rfl) dX1_readKeys_258 (by omega) (fun ux ce9 H locs hux h hce9 hcv9 hcl9 => ?_) (fun _ H locs hu h => ?_)
                  · obtain ⟨q8, E8⟩ := ux
                    dsimp only at hux h
                    have hkn9 := hkn.trans (keysN_bad hnl hfu0 hpk9 (by rw [hun]; unfold undN; rw [if_neg (by omega), if_neg (by omega), if_pos hk]; show sealN2 _ ci ca cj (kcK k) bd = _; unfold sealN2; rw [if_pos h0b]))
                    have h : Wd D B s ([(ho, .inr (2, [.ref st, .ref fi, .ref bl, .long u.1, .ref wo])), (st, war dA 5 u.2.1), (wo, war dA 80 u.2.2.1), (bl, bar dA 64 u.2.2.2.2)] ++ ([(dg, bar dA 32 gd), (pk, .inr (1, [.ref b2, .int (nI bd.length)])), (b2, bar dA (gro cap bd.length) g2)] ++ ([(o1, .inr (11, [.ref rb, .int (nI lw.length), .int (nI n2), .int (nI nx), .int (nI k2), .ref q0, .ref pk]))] ++ (ringW dA e0 (ra, lm, lx) Rg ++ (O ++ (F ++ ((E ++ E1) ++ E8))))))) H locs := h.permL (perm_add (fun g f p0 p1 p2 => by (try simp only [p0, p1, p2]) <;> omega))
                    have h : Wd D B s (h4C dA ho st fi bl wo u ++ ([(dg, bar dA 32 gd), (pk, .inr (1, [.ref b2, .int (nI bd.length)])), (b2, bar dA (gro cap bd.length) g2)] ++ ([(o1, .inr (11, [.ref rb, .int (nI lw.length), .int (nI n2), .int (nI nx), .int (nI k2), .ref q0, .ref pk]))] ++ (ringW dA e0 (ra, lm, lx) Rg ++ (O ++ (F ++ ((E ++ E1) ++ E8))))))) H locs := h
                    have hft : FaultIn ([(o1, .inr (11, [.ref rb, .int (nI lw.length), .int (nI n2), .int (nI nx), .int (nI k2), .ref q0, .ref pk]))] ++ (ringW dA e0 (ra, lm, lx) Rg ++ (O ++ (F ++ ((E ++ E1) ++ E8))))) q8 (tellN kr lw.length) := by
                      unfold tellN
                      rw [hkn9, if_neg (m1_ne (by omega))]
                      exact hux.up (fun z hz => List.mem_append_right _ (List.mem_append_right _ (List.mem_append_right _ (List.mem_append_right _ (List.mem_append_right _ hz)))))
                    have hk0 : kr.1 = 0 → kr.2.2.2 = 0 := fun q9 => by rw [hkn9] at q9; exact absurd q9 (m1_ne (by omega))
                    subst hQ
                    exact thr_out C hex hlocks h (q8, u, gd, (b2, gro cap bd.length, g2, bd), [(o1, .inr (11, [.ref rb, .int (nI lw.length), .int (nI n2), .int (nI nx), .int (nI k2), .ref q0, .ref pk]))] ++ (ringW dA e0 (ra, lm, lx) Rg ++ (O ++ (F ++ ((E ++ E1) ++ E8))))) rfl rfl (⟨⟨hgd, hgb, hsr2, hgc.1, hgc.2⟩, hft, fun x9 hx9 => List.mem_append_right _ (List.mem_append_right _ (memOE hx9)), hk0⟩) rfl hce9 hcv9 hcl9 (by omega) (by omega)
                  exact hu.elim
                · have h0b : 0 < bd.length := by omega
                  rcases Bool.eq_false_or_eq_true (oursL bd) with hou | hou
                  · rcases Bool.eq_false_or_eq_true (sealOk bd) with hso | hso
                    · have h12 := (sealOk_len hbd hso).1
                      refine call_S (As := [.ref o1]) (rest := []) (n := 1) C h (c1_sealY l D dA B Z hZ ([(o1, .inr (11, [.ref rb, .int (nI lw.length), .int (nI n2), .int (nI nx), .int (nI k2), .ref q0, .ref pk])), (ho, .inr (2, [.ref st, .ref fi, .ref bl, .long u.1, .ref wo])), (st, war dA 5 u.2.1), (wo, war dA 80 u.2.2.1), (bl, bar dA 64 u.2.2.2.2), (dg, bar dA 32 gd), (pk, .inr (1, [.ref b2, .int (nI bd.length)])), (b2, bar dA (gro cap bd.length) g2)] ++ (ringW dA e0 (ra, lm, lx) Rg ++ (O ++ (F ++ (E ++ E1))))) o1 rb lw.length n2 nx k2 pk q0 bd (List.mem_of_getElem? (i := 0) rfl) (List.mem_append_right _ (List.mem_append_right _ (List.mem_append_right _ hq2))) hbd hbl h0b hou hso) (lw_S q1291 q1292 q129 q1293) (by decide +kernel) (by decide) (by decide) rfl hl rfl (Nat.le_of_ble_eq_true rfl) dX1_readKeys_258 (by omega) (fun u8 H locs hu8 h => ?_)
                      obtain ⟨se, E3⟩ := u8
                      obtain ⟨hS0, hfr3⟩ := hu8
                      dsimp only at hS0 hfr3 h
                      have h : Wd D B s ([(o1, .inr (11, [.ref rb, .int (nI lw.length), .int (nI n2), .int (nI nx), .int (nI k2), .ref q0, .ref pk])), (ho, .inr (2, [.ref st, .ref fi, .ref bl, .long u.1, .ref wo])), (st, war dA 5 u.2.1), (wo, war dA 80 u.2.2.1), (bl, bar dA 64 u.2.2.2.2), (dg, bar dA 32 gd), (pk, .inr (1, [.ref b2, .int (nI bd.length)])), (b2, bar dA (gro cap bd.length) g2)] ++ (ringW dA e0 (ra, lm, lx) Rg ++ (O ++ (F ++ ((E ++ E1) ++ E3))))) H locs := h.permL (perm_add (fun g f p0 p1 p2 => by (try simp only [p0, p1, p2]) <;> omega))
                      have hS : SealIn dA (F ++ ((E ++ E1) ++ E3)) (se, bd) 0 := by
                        have hm : ∀ z ∈ [(q0, bal dA bd)] ++ E3, z ∈ (F ++ ((E ++ E1) ++ E3)) := by
                          intro z hz
                          rcases List.mem_append.mp hz with y | y
                          · rw [List.mem_singleton.mp y, ← List.append_assoc]; exact List.mem_append_left _ hq2
                          · exact List.mem_append_right _ (List.mem_append_right _ y)
                        exact hS0.sub (fun b q hq => hm _ hq) (fun a fs hq => hm _ hq)
                      have hfr2 : ∀ y, (se, y) ∈ F ++ (E ++ E1) → False := fun y hy => hfr3 y (List.mem_append_right _ (List.mem_append_right _ (List.mem_append_right _ hy)))
                      show W p l e R s m args below meth c H locs (cc + 0 + (rC cap bd.length + 1) + 0 + (bd.length / 2 + 3)) (cs + 0 + (rS cap bd.length + bd.length) + 0 + (5 * bd.length + 22)) Q (F0 m 261 ls [.ref se])
                      have hSc := hS
                      obtain ⟨_, _, _, _, _, _, _, _, _, hscell, _⟩ := hSc
                      dsimp only at hscell
                      have hkw : ∀ z ∈ kyW dA e0 k, z ∈ [(o1, .inr (11, [.ref rb, .int (nI lw.length), .int (nI n2), .int (nI nx), .int (nI k2), .ref q0, .ref pk])), (ho, .inr (2, [.ref st, .ref fi, .ref bl, .long u.1, .ref wo])), (st, war dA 5 u.2.1), (wo, war dA 80 u.2.2.1), (bl, bar dA 64 u.2.2.2.2), (dg, bar dA 32 gd), (pk, .inr (1, [.ref b2, .int (nI bd.length)])), (b2, bar dA (gro cap bd.length) g2)] ++ (ringW dA e0 (ra, lm, lx) Rg ++ (O ++ (F ++ ((E ++ E1) ++ E3)))) := fun z hz => List.mem_append_right _ (List.mem_append_left _ (ky_ring (List.mem_of_getElem? hik) hz))
                      have hrt : ∀ z ∈ (F ++ ((E ++ E1) ++ E3)), z ∈ [(o1, .inr (11, [.ref rb, .int (nI lw.length), .int (nI n2), .int (nI nx), .int (nI k2), .ref q0, .ref pk])), (ho, .inr (2, [.ref st, .ref fi, .ref bl, .long u.1, .ref wo])), (st, war dA 5 u.2.1), (wo, war dA 80 u.2.2.1), (bl, bar dA 64 u.2.2.2.2), (dg, bar dA 32 gd), (pk, .inr (1, [.ref b2, .int (nI bd.length)])), (b2, bar dA (gro cap bd.length) g2)] ++ (ringW dA e0 (ra, lm, lx) Rg ++ (O ++ (F ++ ((E ++ E1) ++ E3)))) := fun z hz => List.mem_append_right _ (List.mem_append_right _ (List.mem_append_right _ hz))
                      have hkS3 : KyS dA cx (F ++ ((E ++ E1) ++ E3)) k := hkS.sub (fun z hz => by rw [← List.append_assoc]; exact List.mem_append_left _ hz)
                      have hmu := List.mem_of_getElem? hju
                      have hSO : SlOk dA (F ++ ((E ++ E1) ++ E3)) uu.2.2.1 uu.2.2.2 := (hkS3.1.2.2.2.2.1 uu hmu).2
                      have hLI : LIn dA e0 ([(o1, .inr (11, [.ref rb, .int (nI lw.length), .int (nI n2), .int (nI nx), .int (nI k2), .ref q0, .ref pk])), (ho, .inr (2, [.ref st, .ref fi, .ref bl, .long u.1, .ref wo])), (st, war dA 5 u.2.1), (wo, war dA 80 u.2.2.1), (bl, bar dA 64 u.2.2.2.2), (dg, bar dA 32 gd), (pk, .inr (1, [.ref b2, .int (nI bd.length)])), (b2, bar dA (gro cap bd.length) g2)] ++ (ringW dA e0 (ra, lm, lx) Rg ++ (O ++ (F ++ ((E ++ E1) ++ E3))))) uu.2.2.1 (uu.2.2.2.map Prod.fst) := (hSO.sub hrt).lin (KyIn.usw hkw hmu)
                      obtain ⟨_, uba, hoc0, _⟩ := (hkS3.1.2.2.2.2.1 uu hmu).1
                      have hoc := hrt _ hoc0
                      obtain ⟨ed9, hcl9⟩ := hLI.cell
                      have hSs : ∀ y ∈ uu.2.2.2, SealB dA ([(o1, .inr (11, [.ref rb, .int (nI lw.length), .int (nI n2), .int (nI nx), .int (nI k2), .ref q0, .ref pk])), (ho, .inr (2, [.ref st, .ref fi, .ref bl, .long u.1, .ref wo])), (st, war dA 5 u.2.1), (wo, war dA 80 u.2.2.1), (bl, bar dA 64 u.2.2.2.2), (dg, bar dA 32 gd), (pk, .inr (1, [.ref b2, .int (nI bd.length)])), (b2, bar dA (gro cap bd.length) g2)] ++ (ringW dA e0 (ra, lm, lx) Rg ++ (O ++ (F ++ ((E ++ E1) ++ E3))))) y := fun y hy => (hSO.2.2.2 y hy).sub hrt
                      have hSz : SealB dA ([(o1, .inr (11, [.ref rb, .int (nI lw.length), .int (nI n2), .int (nI nx), .int (nI k2), .ref q0, .ref pk])), (ho, .inr (2, [.ref st, .ref fi, .ref bl, .long u.1, .ref wo])), (st, war dA 5 u.2.1), (wo, war dA 80 u.2.2.1), (bl, bar dA 64 u.2.2.2.2), (dg, bar dA 32 gd), (pk, .inr (1, [.ref b2, .int (nI bd.length)])), (b2, bar dA (gro cap bd.length) g2)] ++ (ringW dA e0 (ra, lm, lx) Rg ++ (O ++ (F ++ ((E ++ E1) ++ E3))))) (se, bd) := SealB.sub ⟨0, hS⟩ hrt
                      refine lv_astore (lv' := [(10, .ref se), (9, .null), (8, .int (nI 0)), (7, .int (nI 0)), (0, .ref me), (1, .ref ra), (2, .ref ro), (3, .ref o1), (4, .ref k.1), (5, .ref uu.1), (6, .int (nI many))]) hx hb dX1_readKeys_261 hl (by decide) rfl (fun ls hl => ?_)
                      refine lv_aload hx hb dX1_readKeys_263 (lv_at hl 0 rfl) ?_
                      refine lv_ifnull hx hb dX1_readKeys_265 ?_
                      refine lv_aload hx hb dX1_readKeys_268 (lv_at hl 9 rfl) ?_
                      refine lv_aload hx hb dX1_readKeys_270 (lv_at hl 0 rfl) ?_
                      have hlat : latQ (kcK k) ca cj = uu.2.2.2.map Prod.snd := by unfold latQ; rw [if_neg (by omega), if_pos hc0]; show ((((k.2.2.2.1.2.map kcU)[cj]?).map Prod.snd).getD []) = _; rw [List.getElem?_map, hju]; rfl
                      refine call_U (As := [.ref se]) (rest := []) (n := 1) C h (c8_hasX10 l D dA B Z hZ _ uu.1 uba 0 0 e0 uu.2.2.1 uu.2.2.2 (se, bd) hoc hLI hSs hSz) (lw_U q1406 q1408 q1411 q1407 q141 q1412) rfl (by decide +kernel) (o_recv C h (RC := RX10) (T := TX10) (N := 2) (hoc) rfl) (by decide) (by decide) rfl hl rfl (Nat.le_of_ble_eq_true rfl) dX1_readKeys_272 (by omega) (fun _ H locs _ h => ?_)
                      have h : Wd D B s ([(o1, .inr (11, [.ref rb, .int (nI lw.length), .int (nI n2), .int (nI nx), .int (nI k2), .ref q0, .ref pk])), (ho, .inr (2, [.ref st, .ref fi, .ref bl, .long u.1, .ref wo])), (st, war dA 5 u.2.1), (wo, war dA 80 u.2.2.1), (bl, bar dA 64 u.2.2.2.2), (dg, bar dA 32 gd), (pk, .inr (1, [.ref b2, .int (nI bd.length)])), (b2, bar dA (gro cap bd.length) g2)] ++ (ringW dA e0 (ra, lm, lx) Rg ++ (O ++ (F ++ ((E ++ E1) ++ E3))))) H locs := h
                      refine z_if_eq (tgt := 281) hx hb dX1_readKeys_275 (by decide) (fun c275 => ?_) (fun c275 => ?_)
                      · refine lv_aload hx hb dX1_readKeys_281 (lv_at hl 9 rfl) ?_
                        refine o_get C h (RC := RX10) (T := TX10) (N := 2) (hoc) rfl in_X10 0 (by decide) q411 rfl (v := .ref uu.2.2.1.1) rfl dX1_readKeys_283 ?_
                        refine call_VR (As := []) (rest := []) (n := 0) C h (cA_size l D dA B Z hZ _ e0 uu.2.2.1 _ hLI) (lw_V q360 q361 q362 q133 q363) (by decide +kernel) (o_recv C h (RC := RJ2) (T := TJ2) (N := 3) (hcl9) rfl) (by decide) (by decide) rfl hl rfl (Nat.le_of_ble_eq_true rfl) dX1_readKeys_286 (by omega) (fun _ H locs _ h => ?_)
                        have h : Wd D B s ([(o1, .inr (11, [.ref rb, .int (nI lw.length), .int (nI n2), .int (nI nx), .int (nI k2), .ref q0, .ref pk])), (ho, .inr (2, [.ref st, .ref fi, .ref bl, .long u.1, .ref wo])), (st, war dA 5 u.2.1), (wo, war dA 80 u.2.2.1), (bl, bar dA 64 u.2.2.2.2), (dg, bar dA 32 gd), (pk, .inr (1, [.ref b2, .int (nI bd.length)])), (b2, bar dA (gro cap bd.length) g2)] ++ (ringW dA e0 (ra, lm, lx) Rg ++ (O ++ (F ++ ((E ++ E1) ++ E3))))) H locs := h
                        rw [List.length_map]
                        refine lv_bipush (v := nI 16) hx hb dX1_readKeys_289 (by decide) ?_
                        have h166 := hSO.2.2.1
                        refine n_icmp_ne (tgt := 299) hx hb (by omega) (by omega) dX1_readKeys_291 (by decide) (fun c291 => ?_) (fun c291 => ?_)
                        · refine lv_aload hx hb dX1_readKeys_299 (lv_at hl 9 rfl) ?_
                          refine o_get C h (RC := RX10) (T := TX10) (N := 2) (hoc) rfl in_X10 0 (by decide) q411 rfl (v := .ref uu.2.2.1.1) rfl dX1_readKeys_301 ?_
                          refine lv_aload hx hb dX1_readKeys_304 (lv_at hl 0 rfl) ?_
                          obtain ⟨Y9, hY1, hY2⟩ := addU_perm (dA := dA) (e0 := e0) (rl := (ra, lm, lx)) hik hju
                          have h : Wd D B s (ringW dA e0 (ra, lm, lx) Rg ++ (([(o1, .inr (11, [.ref rb, .int (nI lw.length), .int (nI n2), .int (nI nx), .int (nI k2), .ref q0, .ref pk])), (ho, .inr (2, [.ref st, .ref fi, .ref bl, .long u.1, .ref wo])), (st, war dA 5 u.2.1), (wo, war dA 80 u.2.2.1), (bl, bar dA 64 u.2.2.2.2), (dg, bar dA 32 gd), (pk, .inr (1, [.ref b2, .int (nI bd.length)])), (b2, bar dA (gro cap bd.length) g2)] ++ O) ++ (F ++ ((E ++ E1) ++ E3)))) H locs := h.permL (perm_add (fun g f p0 p1 p2 => by (try simp only [p0, p1, p2]) <;> omega))
                          refine call_VR (As := [.ref se]) (rest := []) (n := 1) C h (cR_add l D dA B Z hZ (ringW dA e0 (ra, lm, lx) Rg) Y9 ([(o1, .inr (11, [.ref rb, .int (nI lw.length), .int (nI n2), .int (nI nx), .int (nI k2), .ref q0, .ref pk])), (ho, .inr (2, [.ref st, .ref fi, .ref bl, .long u.1, .ref wo])), (st, war dA 5 u.2.1), (wo, war dA 80 u.2.2.1), (bl, bar dA 64 u.2.2.2.2), (dg, bar dA 32 gd), (pk, .inr (1, [.ref b2, .int (nI bd.length)])), (b2, bar dA (gro cap bd.length) g2)] ++ O) (F ++ ((E ++ E1) ++ E3)) e0 mi uu.2.2.1 uu.2.2.2 (se, bd) _ hzs hza hY1 hSO hscell (by omega)) (lw_V q548 q518 q519 q133 q520) (by decide +kernel) (o_recv C h (RC := RJ2) (T := TJ2) (N := 3) (List.mem_append_left _ (hY1.mem_iff.mpr (List.mem_append_left _ (lW_cell dA e0 uu.2.2.1 uu.2.2.2.length).choose_spec))) rfl) (by decide) (by decide) rfl hl rfl (Nat.le_of_ble_eq_true rfl) dX1_readKeys_306 (by omega) (fun u8 H locs hu8 h => ?_)
                          obtain ⟨⟨xa9, xm9, xx9⟩, E4⟩ := u8
                          obtain ⟨hxa, hAL9⟩ := hu8
                          dsimp only at hxa hAL9 h
                          obtain ⟨k8, hk8⟩ : ∃ z, z = kU k k.2.2.2.1.1 (k.2.2.2.1.2.set cj (uS uu (xa9, xm9, xx9) (uu.2.2.2 ++ [(se, bd)]))) := ⟨_, rfl⟩
                          obtain ⟨R9, hR9⟩ : ∃ z, z = Rg.set ci k8 := ⟨_, rfl⟩
                          have hY3 := hY2 (xa9, xm9, xx9) (se, bd)
                          rw [← hk8, ← hR9] at hY3
                          have h : Wd D B s (ringW dA e0 (ra, lm, lx) R9 ++ (([(o1, .inr (11, [.ref rb, .int (nI lw.length), .int (nI n2), .int (nI nx), .int (nI k2), .ref q0, .ref pk])), (ho, .inr (2, [.ref st, .ref fi, .ref bl, .long u.1, .ref wo])), (st, war dA 5 u.2.1), (wo, war dA 80 u.2.2.1), (bl, bar dA 64 u.2.2.2.2), (dg, bar dA 32 gd), (pk, .inr (1, [.ref b2, .int (nI bd.length)])), (b2, bar dA (gro cap bd.length) g2)] ++ O) ++ ((F ++ ((E ++ E1) ++ E3)) ++ E4))) H locs := h.permL (hY3.append_right _)
                          have h : Wd D B s ([(o1, .inr (11, [.ref rb, .int (nI lw.length), .int (nI n2), .int (nI nx), .int (nI k2), .ref q0, .ref pk])), (ho, .inr (2, [.ref st, .ref fi, .ref bl, .long u.1, .ref wo])), (st, war dA 5 u.2.1), (wo, war dA 80 u.2.2.1), (bl, bar dA 64 u.2.2.2.2), (dg, bar dA 32 gd), (pk, .inr (1, [.ref b2, .int (nI bd.length)])), (b2, bar dA (gro cap bd.length) g2)] ++ (ringW dA e0 (ra, lm, lx) R9 ++ (O ++ (F ++ (((E ++ E1) ++ E3) ++ E4))))) H locs := h.permL (perm_add (fun g f p0 p1 p2 => by (try simp only [p0, p1, p2]) <;> omega))
                          have hse0 : ∀ z ∈ (F ++ ((E ++ E1) ++ E3)), z ∈ (F ++ (((E ++ E1) ++ E3) ++ E4)) := fun z hz => by rw [← List.append_assoc]; exact List.mem_append_left _ hz
                          have hRg3 : RgS dA (cxA cx se (usM k.2.1.2.1 uu.2.1, k.2.1.2.1)) (F ++ (((E ++ E1) ++ E3) ++ E4)) (ra, lm, lx) R9 := by
                            have z0 : RgS dA (cxA cx se (usM k.2.1.2.1 uu.2.1, k.2.1.2.1)) (F ++ (E ++ E1)) (ra, lm, lx) Rg := hRg1.cx hfr2
                            have z : RgS dA (cxA cx se (usM k.2.1.2.1 uu.2.1, k.2.1.2.1)) (F ++ (((E ++ E1) ++ E3) ++ E4)) (ra, lm, lx) Rg := z0.sub (fun y hy => hse0 y (by rw [← List.append_assoc]; exact List.mem_append_left _ hy))
                            have zk := z.2 k (List.mem_of_getElem? hik)
                            have hS9 : SealIn dA (F ++ (((E ++ E1) ++ E3) ++ E4)) (se, bd) 0 := hS.sub (fun b q hq => hse0 _ hq) (fun a fs hq => hse0 _ hq)
                            have hST9 : SealT dA (cxA cx se (usM k.2.1.2.1 uu.2.1, k.2.1.2.1)) (F ++ (((E ++ E1) ++ E3) ++ E4)) (se, bd) := ⟨0, hS9, Or.inl rfl⟩
                            have hSO9 : SlOk dA (F ++ (((E ++ E1) ++ E3) ++ E4)) (xa9, xm9, xx9) (uu.2.2.2 ++ [(se, bd)]) := hSO.snoc hse0 hAL9 (by omega) ⟨0, hS9⟩
                            rw [hR9, hk8]
                            exact z.set hik rfl (zk.addU hju hxa hSO9 hST9 cxA_eq)
                          have hcx3 : ∀ a y, (a, y) ∈ F → (cxA cx se (usM k.2.1.2.1 uu.2.1, k.2.1.2.1)) a = cx0 a := fun a y hy => by
                            have hne : a ≠ se := fun q => hfr2 y (by rw [← q]; exact List.mem_append_left _ hy)
                            rw [cxA_ne hne]; exact hcx a y hy
                          have hcur3 : CurA R9 (some (ci, ca, cj)) (some k.1) (some uu.1) := ⟨k8, by rw [hR9]; exact List.getElem?_set_self (List.getElem?_eq_some_iff.mp hik).1, by rw [hk8]; rfl, Or.inr (Or.inl ⟨hc0, uS uu (xa9, xm9, xx9) (uu.2.2.2 ++ [(se, bd)]), by rw [hk8]; exact List.getElem?_set_self (List.getElem?_eq_some_iff.mp hju).1, rfl⟩)⟩
                          have hadd : addN (kcK k) ca cj bd = kcK k8 := by unfold addN; rw [if_neg (by omega), if_pos hc0, hk8]; show _ = (k.2.1.2, k.2.2.1.2.map Prod.snd, (k.2.2.2.1.2.set cj (uS uu (xa9, xm9, xx9) (uu.2.2.2 ++ [(se, bd)]))).map kcU, k.2.2.2.2.2.map kcP); rw [← mod_map (f := fun u : UCt => (u.1, u.2 ++ [bd])) hju (by unfold kcU uS; dsimp only; rw [List.map_append]; rfl)]; rfl
                          have hp3 : pkN (Rg.map kcK, some (ci, ca, cj), many) k2 bd = some (R9.map kcK, some (ci, ca, cj), many) := by rw [hun]; unfold undN; rw [if_neg (by omega), if_neg (by omega), if_pos hk]; show sealN2 _ ci ca cj (kcK k) bd = _; unfold sealN2; rw [if_neg (by omega), if_neg (by rw [hou]; decide), if_neg (by rw [hso]; decide), hlat, map_any, if_neg (by rw [c275]; decide), List.length_map, if_neg (by omega), hadd, hR9]; show some ((Rg.map kcK).set ci (kcK k8), _) = _; rw [set_map (y := k8) rfl]
                          refine lv_pop hx hb dX1_readKeys_309 rfl ?_
                          refine lv_goto (tgt := 22) hx hb dX1_readKeys_310 (by decide) ?_
                          exact ih n2 nx k2 (some q0) b2 (gro cap bd.length) g2 bd u gd lm lx R9 (cxA cx se (usM k.2.1.2.1 uu.2.1, k.2.1.2.1)) (some (ci, ca, cj)) (some k.1) (some uu.1) many (fu - 1) (((E ++ E1) ++ E3) ++ E4) _ _ hadv.1 hsr2 hgc.1 hgc.2 hgb hgd hRg3 hcx3 hcur3 (hkn.trans (keysN_go hnl hfu0 hpk9 hp3)) (by omega) (by omega) (by (try dsimp only) <;> omega) (by (try dsimp only) <;> omega) (by omega) _ _ h _ (lv_sub hl [4, 5, 6, 7, 8, 9, 10] rfl)
                        · refine lv_aload_n hx hb dX1_readKeys_294 rfl (lv_at hl 7 rfl) ?_
                          refine call_VR (As := []) (rest := []) (n := 0) C h (c14_fault l D dA B Z hZ _ o1 rb lw.length n2 nx k2 pk (some q0) hlt hzx (List.mem_of_getElem? (i := 0) rfl)) (lw_V q1088 q1064 q1065 q162 q1066) (by decide +kernel) (o_recv C h (RC := RX14) (T := TX14) (N := 7) (List.mem_of_getElem? (i := 0) rfl) rfl) (by decide) (by decide) rfl hl rfl (Nat.le_of_ble_eq_true rfl) dX1_readKeys_295 (by omega) (fun u8 H locs _ h => ?_)
                          obtain ⟨q9, x9⟩ := u8
                          have h : Wd D B s ([(q9, .inr (10, fts x9 (-1 - nI nx))), (o1, .inr (11, [.ref rb, .int (nI lw.length), .int (nI n2), .int (nI nx), .int (nI k2), .ref q0, .ref pk])), (ho, .inr (2, [.ref st, .ref fi, .ref bl, .long u.1, .ref wo])), (st, war dA 5 u.2.1), (wo, war dA 80 u.2.2.1), (bl, bar dA 64 u.2.2.2.2), (dg, bar dA 32 gd), (pk, .inr (1, [.ref b2, .int (nI bd.length)])), (b2, bar dA (gro cap bd.length) g2)] ++ (ringW dA e0 (ra, lm, lx) Rg ++ (O ++ (F ++ ((E ++ E1) ++ E3))))) H locs := h
                          subst hQ
                          have hkn9 := hkn.trans (keysN_bad hnl hfu0 hpk9 (by rw [hun]; unfold undN; rw [if_neg (by omega), if_neg (by omega), if_pos hk]; show sealN2 _ ci ca cj (kcK k) bd = _; unfold sealN2; rw [if_neg (by omega), if_neg (by rw [hou]; decide), if_neg (by rw [hso]; decide), hlat, map_any, if_neg (by rw [c275]; decide), List.length_map, if_pos (by omega)]))
                          have h : Wd D B s ([(ho, .inr (2, [.ref st, .ref fi, .ref bl, .long u.1, .ref wo])), (st, war dA 5 u.2.1), (wo, war dA 80 u.2.2.1), (bl, bar dA 64 u.2.2.2.2)] ++ ([(dg, bar dA 32 gd), (pk, .inr (1, [.ref b2, .int (nI bd.length)])), (b2, bar dA (gro cap bd.length) g2)] ++ ([(q9, .inr (10, fts x9 (-1 - nI nx)))] ++ ([(o1, .inr (11, [.ref rb, .int (nI lw.length), .int (nI n2), .int (nI nx), .int (nI k2), .ref q0, .ref pk]))] ++ (ringW dA e0 (ra, lm, lx) Rg ++ (O ++ (F ++ ((E ++ E1) ++ E3)))))))) H locs := h.permL (perm_add (fun g f p0 p1 p2 => by (try simp only [p0, p1, p2]) <;> omega))
                          have h : Wd D B s (h4C dA ho st fi bl wo u ++ ([(dg, bar dA 32 gd), (pk, .inr (1, [.ref b2, .int (nI bd.length)])), (b2, bar dA (gro cap bd.length) g2)] ++ ([(q9, .inr (10, fts x9 (-1 - nI nx)))] ++ ([(o1, .inr (11, [.ref rb, .int (nI lw.length), .int (nI n2), .int (nI nx), .int (nI k2), .ref q0, .ref pk]))] ++ (ringW dA e0 (ra, lm, lx) Rg ++ (O ++ (F ++ ((E ++ E1) ++ E3)))))))) H locs := h
                          have hft : FaultIn ([(q9, .inr (10, fts x9 (-1 - nI nx)))] ++ ([(o1, .inr (11, [.ref rb, .int (nI lw.length), .int (nI n2), .int (nI nx), .int (nI k2), .ref q0, .ref pk]))] ++ (ringW dA e0 (ra, lm, lx) Rg ++ (O ++ (F ++ ((E ++ E1) ++ E3)))))) q9 (tellN kr lw.length) := by
                            unfold tellN
                            rw [hkn9, if_neg (m1_ne (by omega))]
                            exact ⟨x9, List.mem_append_left _ List.mem_cons_self⟩
                          have hk0 : kr.1 = 0 → kr.2.2.2 = 0 := fun q9 => by rw [hkn9] at q9; exact absurd q9 (m1_ne (by omega))
                          exact x_athrow C hex hlocks h (List.mem_append_right _ (List.mem_append_right _ (List.mem_append_left _ List.mem_cons_self))) rfl (q9, u, gd, (b2, gro cap bd.length, g2, bd), [(q9, .inr (10, fts x9 (-1 - nI nx)))] ++ ([(o1, .inr (11, [.ref rb, .int (nI lw.length), .int (nI n2), .int (nI nx), .int (nI k2), .ref q0, .ref pk]))] ++ (ringW dA e0 (ra, lm, lx) Rg ++ (O ++ (F ++ ((E ++ E1) ++ E3)))))) rfl rfl (⟨⟨hgd, hgb, hsr2, hgc.1, hgc.2⟩, hft, fun x9 hx9 => List.mem_append_right _ (List.mem_append_right _ (List.mem_append_right _ (memOE hx9))), hk0⟩) rfl (by omega) (by omega) dX1_readKeys_298
                      · have hp3 : pkN (Rg.map kcK, some (ci, ca, cj), many) k2 bd = some (Rg.map kcK, some (ci, ca, cj), many) := by rw [hun]; unfold undN; rw [if_neg (by omega), if_neg (by omega), if_pos hk]; show sealN2 _ ci ca cj (kcK k) bd = _; unfold sealN2; rw [if_neg (by omega), if_neg (by rw [hou]; decide), if_neg (by rw [hso]; decide), hlat, map_any, if_pos c275]
                        have hcur3 : CurA Rg (some (ci, ca, cj)) (some k.1) (some uu.1) := ⟨k, hik, rfl, Or.inr (Or.inl ⟨hc0, uu, hju, rfl⟩)⟩
                        have hRg3 : RgS dA cx (F ++ ((E ++ E1) ++ E3)) (ra, lm, lx) Rg := hRg1.sub (fun z hz => by rw [← List.append_assoc]; exact List.mem_append_left _ hz)
                        refine lv_goto (tgt := 22) hx hb dX1_readKeys_278 (by decide) ?_
                        exact ih n2 nx k2 (some q0) b2 (gro cap bd.length) g2 bd u gd lm lx Rg cx (some (ci, ca, cj)) (some k.1) (some uu.1) many (fu - 1) ((E ++ E1) ++ E3) _ _ hadv.1 hsr2 hgc.1 hgc.2 hgb hgd hRg3 hcx hcur3 (hkn.trans (keysN_go hnl hfu0 hpk9 hp3)) (by omega) (by omega) (by (try dsimp only) <;> omega) (by (try dsimp only) <;> omega) (by omega) _ _ h _ (lv_sub hl [4, 5, 6, 7, 8, 9, 10] rfl)
                    · refine call_SX (As := [.ref o1]) (rest := []) (n := 1) C h (c1_sealX l D dA B Z hZ ([(o1, .inr (11, [.ref rb, .int (nI lw.length), .int (nI n2), .int (nI nx), .int (nI k2), .ref q0, .ref pk])), (ho, .inr (2, [.ref st, .ref fi, .ref bl, .long u.1, .ref wo])), (st, war dA 5 u.2.1), (wo, war dA 80 u.2.2.1), (bl, bar dA 64 u.2.2.2.2), (dg, bar dA 32 gd), (pk, .inr (1, [.ref b2, .int (nI bd.length)])), (b2, bar dA (gro cap bd.length) g2)] ++ (ringW dA e0 (ra, lm, lx) Rg ++ (O ++ (F ++ (E ++ E1))))) o1 rb lw.length n2 nx k2 pk q0 bd hlt hzx (List.mem_of_getElem? (i := 0) rfl) (List.mem_append_right _ (List.mem_append_right _ (List.mem_append_right _ hq2))) hbd hbl (Or.inr ⟨hou, hso⟩)) (lw_S q1291 q1292 q129 q1293) (by decide +kernel) (by decide) (by decide) rfl hl rfl (Nat.le_of_ble_eq_true rfl) dX1_readKeys_258 (by omega) (fun ux ce9 H locs hux h hce9 hcv9 hcl9 => ?_) (fun _ H locs hu h => ?_)
                      · obtain ⟨q8, E8⟩ := ux
                        dsimp only at hux h
                        have hkn9 := hkn.trans (keysN_bad hnl hfu0 hpk9 (by rw [hun]; unfold undN; rw [if_neg (by omega), if_neg (by omega), if_pos hk]; show sealN2 _ ci ca cj (kcK k) bd = _; unfold sealN2; rw [if_neg (by omega), if_neg (by rw [hou]; decide), if_pos hso]))
                        have h : Wd D B s ([(ho, .inr (2, [.ref st, .ref fi, .ref bl, .long u.1, .ref wo])), (st, war dA 5 u.2.1), (wo, war dA 80 u.2.2.1), (bl, bar dA 64 u.2.2.2.2)] ++ ([(dg, bar dA 32 gd), (pk, .inr (1, [.ref b2, .int (nI bd.length)])), (b2, bar dA (gro cap bd.length) g2)] ++ ([(o1, .inr (11, [.ref rb, .int (nI lw.length), .int (nI n2), .int (nI nx), .int (nI k2), .ref q0, .ref pk]))] ++ (ringW dA e0 (ra, lm, lx) Rg ++ (O ++ (F ++ ((E ++ E1) ++ E8))))))) H locs := h.permL (perm_add (fun g f p0 p1 p2 => by (try simp only [p0, p1, p2]) <;> omega))
                        have h : Wd D B s (h4C dA ho st fi bl wo u ++ ([(dg, bar dA 32 gd), (pk, .inr (1, [.ref b2, .int (nI bd.length)])), (b2, bar dA (gro cap bd.length) g2)] ++ ([(o1, .inr (11, [.ref rb, .int (nI lw.length), .int (nI n2), .int (nI nx), .int (nI k2), .ref q0, .ref pk]))] ++ (ringW dA e0 (ra, lm, lx) Rg ++ (O ++ (F ++ ((E ++ E1) ++ E8))))))) H locs := h
                        have hft : FaultIn ([(o1, .inr (11, [.ref rb, .int (nI lw.length), .int (nI n2), .int (nI nx), .int (nI k2), .ref q0, .ref pk]))] ++ (ringW dA e0 (ra, lm, lx) Rg ++ (O ++ (F ++ ((E ++ E1) ++ E8))))) q8 (tellN kr lw.length) := by
                          unfold tellN
                          rw [hkn9, if_neg (m1_ne (by omega))]
                          exact hux.up (fun z hz => List.mem_append_right _ (List.mem_append_right _ (List.mem_append_right _ (List.mem_append_right _ (List.mem_append_right _ hz)))))
                        have hk0 : kr.1 = 0 → kr.2.2.2 = 0 := fun q9 => by rw [hkn9] at q9; exact absurd q9 (m1_ne (by omega))
                        subst hQ
                        exact thr_out C hex hlocks h (q8, u, gd, (b2, gro cap bd.length, g2, bd), [(o1, .inr (11, [.ref rb, .int (nI lw.length), .int (nI n2), .int (nI nx), .int (nI k2), .ref q0, .ref pk]))] ++ (ringW dA e0 (ra, lm, lx) Rg ++ (O ++ (F ++ ((E ++ E1) ++ E8))))) rfl rfl (⟨⟨hgd, hgb, hsr2, hgc.1, hgc.2⟩, hft, fun x9 hx9 => List.mem_append_right _ (List.mem_append_right _ (memOE hx9)), hk0⟩) rfl hce9 hcv9 hcl9 (by omega) (by omega)
                      exact hu.elim
                  · refine call_S (As := [.ref o1]) (rest := []) (n := 1) C h (c1_sealZ l D dA B Z hZ ([(o1, .inr (11, [.ref rb, .int (nI lw.length), .int (nI n2), .int (nI nx), .int (nI k2), .ref q0, .ref pk])), (ho, .inr (2, [.ref st, .ref fi, .ref bl, .long u.1, .ref wo])), (st, war dA 5 u.2.1), (wo, war dA 80 u.2.2.1), (bl, bar dA 64 u.2.2.2.2), (dg, bar dA 32 gd), (pk, .inr (1, [.ref b2, .int (nI bd.length)])), (b2, bar dA (gro cap bd.length) g2)] ++ (ringW dA e0 (ra, lm, lx) Rg ++ (O ++ (F ++ (E ++ E1))))) o1 rb lw.length n2 nx k2 pk q0 bd (List.mem_of_getElem? (i := 0) rfl) (List.mem_append_right _ (List.mem_append_right _ (List.mem_append_right _ hq2))) hbd hbl h0b hou) (lw_S q1291 q1292 q129 q1293) (by decide +kernel) (by decide) (by decide) rfl hl rfl (Nat.le_of_ble_eq_true rfl) dX1_readKeys_258 (by omega) (fun _ H locs _ h => ?_)
                    have hp3 : pkN (Rg.map kcK, some (ci, ca, cj), many) k2 bd = some (Rg.map kcK, some (ci, ca, cj), many) := by rw [hun]; unfold undN; rw [if_neg (by omega), if_neg (by omega), if_pos hk]; show sealN2 _ ci ca cj (kcK k) bd = _; unfold sealN2; rw [if_neg (by omega), if_pos hou]
                    have hcur3 : CurA Rg (some (ci, ca, cj)) (some k.1) (some uu.1) := ⟨k, hik, rfl, Or.inr (Or.inl ⟨hc0, uu, hju, rfl⟩)⟩
                    refine lv_astoreN (lv' := [(10, .null), (9, .null), (8, .int (nI 0)), (7, .int (nI 0)), (0, .ref me), (1, .ref ra), (2, .ref ro), (3, .ref o1), (4, .ref k.1), (5, .ref uu.1), (6, .int (nI many))]) hx hb dX1_readKeys_261 hl (by decide) rfl (fun ls hl => ?_)
                    refine lv_aloadN hx hb dX1_readKeys_263 (lv_at hl 0 rfl) ?_
                    refine lv_ifnullN (tgt := 22) hx hb dX1_readKeys_265 (by decide) ?_
                    exact ih n2 nx k2 (some q0) b2 (gro cap bd.length) g2 bd u gd lm lx Rg cx (some (ci, ca, cj)) (some k.1) (some uu.1) many (fu - 1) (E ++ E1) _ _ hadv.1 hsr2 hgc.1 hgc.2 hgb hgd hRg1 hcx hcur3 (hkn.trans (keysN_go hnl hfu0 hpk9 hp3)) (by omega) (by omega) (by (try dsimp only) <;> omega) (by (try dsimp only) <;> omega) (by omega) _ _ h _ (lv_sub hl [4, 5, 6, 7, 8, 9, 10] rfl)
              · obtain ⟨hc0, yy, hjy, hlo⟩ := hlt9
                rw [hlo] at hl
                have hl : lv_has ls 11 [(0, .ref me), (1, .ref ra), (2, .ref ro), (3, .ref o1), (4, .ref k.1), (5, .ref yy.1), (6, .int (nI many))] := hl
                refine lv_aload_n hx hb dX1_readKeys_33 rfl (lv_at hl 3 rfl) ?_
                refine call_VR (As := []) (rest := []) (n := 0) C h (c14_isPassed l D dA B Z hZ ([(ho, .inr (2, [.ref st, .ref fi, .ref bl, .long u.1, .ref wo])), (st, war dA 5 u.2.1), (wo, war dA 80 u.2.2.1), (bl, bar dA 64 u.2.2.2.2), (dg, bar dA 32 gd), (pk, .inr (1, [.ref b2, .int (nI bd.length)])), (b2, bar dA (gro cap bd.length) g2)] ++ (ringW dA e0 (ra, lm, lx) Rg ++ (O ++ (F ++ (E ++ E1))))) o1 rb pk lw.length n2 nx k2 (some q0) (by omega)) (lw_V q1084 q1085 q1086 q162 q1087) (by decide +kernel) (o_recv C h (RC := RX14) (T := TX14) (N := 7) (List.mem_of_getElem? (i := 0) rfl) rfl) (by decide) (by decide) rfl hl rfl (Nat.le_of_ble_eq_true rfl) dX1_readKeys_34 (by omega) (fun _ H locs _ h => ?_)
                have h : Wd D B s ([(o1, .inr (11, [.ref rb, .int (nI lw.length), .int (nI n2), .int (nI nx), .int (nI k2), .ref q0, .ref pk])), (ho, .inr (2, [.ref st, .ref fi, .ref bl, .long u.1, .ref wo])), (st, war dA 5 u.2.1), (wo, war dA 80 u.2.2.1), (bl, bar dA 64 u.2.2.2.2), (dg, bar dA 32 gd), (pk, .inr (1, [.ref b2, .int (nI bd.length)])), (b2, bar dA (gro cap bd.length) g2)] ++ (ringW dA e0 (ra, lm, lx) Rg ++ (O ++ (F ++ (E ++ E1))))) H locs := h
                have h : Wd D B s ([(o1, .inr (11, [.ref rb, .int (nI lw.length), .int (nI n2), .int (nI nx), .int (nI k2), .ref q0, .ref pk])), (ho, .inr (2, [.ref st, .ref fi, .ref bl, .long u.1, .ref wo])), (st, war dA 5 u.2.1), (wo, war dA 80 u.2.2.1), (bl, bar dA 64 u.2.2.2.2), (dg, bar dA 32 gd), (pk, .inr (1, [.ref b2, .int (nI bd.length)])), (b2, bar dA (gro cap bd.length) g2)] ++ (ringW dA e0 (ra, lm, lx) Rg ++ (O ++ (F ++ (E ++ E1))))) H locs := h.permL (perm_add (fun g f p0 p1 p2 => by (try simp only [p0, p1, p2]) <;> omega))
                refine z_if_eq (tgt := 43) hx hb dX1_readKeys_37 (by decide) (fun c37 => ?_) (fun c37 => by exfalso; exact hkp (of_decide_eq_true c37))
                refine lv_aload_n hx hb dX1_readKeys_43 rfl (lv_at hl 3 rfl) ?_
                refine o_get C h (RC := RX14) (T := TX14) (N := 7) (List.mem_of_getElem? (i := 0) rfl) rfl in_X14 4 (by decide) q1031 rfl (v := .int (nI k2)) rfl dX1_readKeys_44 ?_
                refine lv_bipush (v := nI 6) hx hb dX1_readKeys_47 (by decide) ?_
                refine n_icmp_eq (tgt := 60) hx hb (by omega) (by omega) dX1_readKeys_49 (by decide) (fun c49 => by exfalso; omega) (fun c49 => ?_)
                refine lv_aload_n hx hb dX1_readKeys_52 rfl (lv_at hl 3 rfl) ?_
                refine o_get C h (RC := RX14) (T := TX14) (N := 7) (List.mem_of_getElem? (i := 0) rfl) rfl in_X14 4 (by decide) q1031 rfl (v := .int (nI k2)) rfl dX1_readKeys_53 ?_
                refine lv_iconst (v := nI 5) hx hb dX1_readKeys_56 (by decide) ?_
                refine n_icmp_ne (tgt := 64) hx hb (by omega) (by omega) dX1_readKeys_57 (by decide) (fun c57 => ?_) (fun c57 => by exfalso; omega)
                refine lv_iconst (v := nI 0) hx hb dX1_readKeys_64 (by decide) ?_
                refine lv_istore (lv' := [(7, .int (nI 0)), (0, .ref me), (1, .ref ra), (2, .ref ro), (3, .ref o1), (4, .ref k.1), (5, .ref yy.1), (6, .int (nI many))]) hx hb dX1_readKeys_65 hl (by decide) rfl (fun ls hl => ?_)
                refine lv_aload_n hx hb dX1_readKeys_67 rfl (lv_at hl 4 rfl) ?_
                refine o_get C h (RC := RX14) (T := TX14) (N := 7) (List.mem_of_getElem? (i := 0) rfl) rfl in_X14 4 (by decide) q1031 rfl (v := .int (nI k2)) rfl dX1_readKeys_68 ?_
                refine lv_bipush (v := nI 14) hx hb dX1_readKeys_71 (by decide) ?_
                refine n_icmp_eq (tgt := 85) hx hb (by omega) (by omega) dX1_readKeys_73 (by decide) (fun c73 => by exfalso; omega) (fun c73 => ?_)
                refine lv_aload_n hx hb dX1_readKeys_76 rfl (lv_at hl 4 rfl) ?_
                refine o_get C h (RC := RX14) (T := TX14) (N := 7) (List.mem_of_getElem? (i := 0) rfl) rfl in_X14 4 (by decide) q1031 rfl (v := .int (nI k2)) rfl dX1_readKeys_77 ?_
                refine lv_bipush (v := nI 7) hx hb dX1_readKeys_80 (by decide) ?_
                refine n_icmp_ne (tgt := 89) hx hb (by omega) (by omega) dX1_readKeys_82 (by decide) (fun c82 => ?_) (fun c82 => by exfalso; omega)
                refine lv_iconst (v := nI 0) hx hb dX1_readKeys_89 (by decide) ?_
                refine lv_istore (lv' := [(8, .int (nI 0)), (7, .int (nI 0)), (0, .ref me), (1, .ref ra), (2, .ref ro), (3, .ref o1), (4, .ref k.1), (5, .ref yy.1), (6, .int (nI many))]) hx hb dX1_readKeys_90 hl (by decide) rfl (fun ls hl => ?_)
                refine lv_iload hx hb dX1_readKeys_92 (lv_at hl 1 rfl) ?_
                refine n_if_ne (tgt := 129) hx hb (by omega) dX1_readKeys_94 (by decide) (fun c94 => by exfalso; omega) (fun c94 => ?_)
                refine lv_aload hx hb dX1_readKeys_97 (lv_at hl 6 rfl) ?_
                refine lv_ifnull hx hb dX1_readKeys_99 ?_
                refine lv_iload hx hb dX1_readKeys_102 (lv_at hl 0 rfl) ?_
                refine n_if_ne (tgt := 129) hx hb (by omega) dX1_readKeys_104 (by decide) (fun c104 => by exfalso; omega) (fun c104 => ?_)
                refine lv_aload_n hx hb dX1_readKeys_107 rfl (lv_at hl 5 rfl) ?_
                refine o_get C h (RC := RX14) (T := TX14) (N := 7) (List.mem_of_getElem? (i := 0) rfl) rfl in_X14 4 (by decide) q1031 rfl (v := .int (nI k2)) rfl dX1_readKeys_108 ?_
                refine lv_iconst (v := nI 2) hx hb dX1_readKeys_111 (by decide) ?_
                refine n_icmp_eq (tgt := 129) hx hb (by omega) (by omega) dX1_readKeys_112 (by decide) (fun c112 => ?_) (fun c112 => by exfalso; omega)
                refine lv_iload hx hb dX1_readKeys_129 (lv_at hl 1 rfl) ?_
                refine n_if_ne (tgt := 139) hx hb (by omega) dX1_readKeys_131 (by decide) (fun c131 => by exfalso; omega) (fun c131 => ?_)
                refine lv_iload hx hb dX1_readKeys_134 (lv_at hl 0 rfl) ?_
                refine n_if_eq (tgt := 172) hx hb (by omega) dX1_readKeys_136 (by decide) (fun c136 => ?_) (fun c136 => by exfalso; omega)
                refine lv_null hx hb dX1_readKeys_172 ?_
                refine lv_astoreN (lv' := [(9, .null), (8, .int (nI 0)), (7, .int (nI 0)), (0, .ref me), (1, .ref ra), (2, .ref ro), (3, .ref o1), (4, .ref k.1), (5, .ref yy.1), (6, .int (nI many))]) hx hb dX1_readKeys_173 hl (by decide) rfl (fun ls hl => ?_)
                refine lv_iload hx hb dX1_readKeys_175 (lv_at hl 2 rfl) ?_
                refine n_if_ne (tgt := 185) hx hb (by omega) dX1_readKeys_177 (by decide) (fun c177 => by exfalso; omega) (fun c177 => ?_)
                refine lv_iload hx hb dX1_readKeys_180 (lv_at hl 1 rfl) ?_
                refine n_if_eq (tgt := 195) hx hb (by omega) dX1_readKeys_182 (by decide) (fun c182 => ?_) (fun c182 => by exfalso; omega)
                refine lv_iload hx hb dX1_readKeys_195 (lv_at hl 2 rfl) ?_
                refine n_if_eq (tgt := 219) hx hb (by omega) dX1_readKeys_197 (by decide) (fun c197 => ?_) (fun c197 => by exfalso; omega)
                refine lv_iload hx hb dX1_readKeys_219 (lv_at hl 1 rfl) ?_
                refine n_if_eq (tgt := 237) hx hb (by omega) dX1_readKeys_221 (by decide) (fun c221 => ?_) (fun c221 => by exfalso; omega)
                refine lv_aload_n hx hb dX1_readKeys_237 rfl (lv_at hl 6 rfl) ?_
                refine o_get C h (RC := RX14) (T := TX14) (N := 7) (List.mem_of_getElem? (i := 0) rfl) rfl in_X14 4 (by decide) q1031 rfl (v := .int (nI k2)) rfl dX1_readKeys_238 ?_
                refine lv_bipush (v := nI 13) hx hb dX1_readKeys_241 (by decide) ?_
                refine n_icmp_ne (tgt := 257) hx hb (by omega) (by omega) dX1_readKeys_243 (by decide) (fun c243 => ?_) (fun c243 => by exfalso; omega)
                refine lv_aload_n hx hb dX1_readKeys_257 rfl (lv_at hl 6 rfl) ?_
                rcases (show bd.length = 0 ∨ ¬ bd.length = 0 by omega) with h0b | h0b
                · refine call_SX (As := [.ref o1]) (rest := []) (n := 1) C h (c1_sealX l D dA B Z hZ ([(o1, .inr (11, [.ref rb, .int (nI lw.length), .int (nI n2), .int (nI nx), .int (nI k2), .ref q0, .ref pk])), (ho, .inr (2, [.ref st, .ref fi, .ref bl, .long u.1, .ref wo])), (st, war dA 5 u.2.1), (wo, war dA 80 u.2.2.1), (bl, bar dA 64 u.2.2.2.2), (dg, bar dA 32 gd), (pk, .inr (1, [.ref b2, .int (nI bd.length)])), (b2, bar dA (gro cap bd.length) g2)] ++ (ringW dA e0 (ra, lm, lx) Rg ++ (O ++ (F ++ (E ++ E1))))) o1 rb lw.length n2 nx k2 pk q0 bd hlt hzx (List.mem_of_getElem? (i := 0) rfl) (List.mem_append_right _ (List.mem_append_right _ (List.mem_append_right _ hq2))) hbd hbl (Or.inl h0b)) (lw_S q1291 q1292 q129 q1293) (by decide +kernel) (by decide) (by decide) rfl hl rfl (Nat.le_of_ble_eq_true rfl) dX1_readKeys_258 (by omega) (fun ux ce9 H locs hux h hce9 hcv9 hcl9 => ?_) (fun _ H locs hu h => ?_)
                  · obtain ⟨q8, E8⟩ := ux
                    dsimp only at hux h
                    have hkn9 := hkn.trans (keysN_bad hnl hfu0 hpk9 (by rw [hun]; unfold undN; rw [if_neg (by omega), if_neg (by omega), if_pos hk]; show sealN2 _ ci ca cj (kcK k) bd = _; unfold sealN2; rw [if_pos h0b]))
                    have h : Wd D B s ([(ho, .inr (2, [.ref st, .ref fi, .ref bl, .long u.1, .ref wo])), (st, war dA 5 u.2.1), (wo, war dA 80 u.2.2.1), (bl, bar dA 64 u.2.2.2.2)] ++ ([(dg, bar dA 32 gd), (pk, .inr (1, [.ref b2, .int (nI bd.length)])), (b2, bar dA (gro cap bd.length) g2)] ++ ([(o1, .inr (11, [.ref rb, .int (nI lw.length), .int (nI n2), .int (nI nx), .int (nI k2), .ref q0, .ref pk]))] ++ (ringW dA e0 (ra, lm, lx) Rg ++ (O ++ (F ++ ((E ++ E1) ++ E8))))))) H locs := h.permL (perm_add (fun g f p0 p1 p2 => by (try simp only [p0, p1, p2]) <;> omega))
                    have h : Wd D B s (h4C dA ho st fi bl wo u ++ ([(dg, bar dA 32 gd), (pk, .inr (1, [.ref b2, .int (nI bd.length)])), (b2, bar dA (gro cap bd.length) g2)] ++ ([(o1, .inr (11, [.ref rb, .int (nI lw.length), .int (nI n2), .int (nI nx), .int (nI k2), .ref q0, .ref pk]))] ++ (ringW dA e0 (ra, lm, lx) Rg ++ (O ++ (F ++ ((E ++ E1) ++ E8))))))) H locs := h
                    have hft : FaultIn ([(o1, .inr (11, [.ref rb, .int (nI lw.length), .int (nI n2), .int (nI nx), .int (nI k2), .ref q0, .ref pk]))] ++ (ringW dA e0 (ra, lm, lx) Rg ++ (O ++ (F ++ ((E ++ E1) ++ E8))))) q8 (tellN kr lw.length) := by
                      unfold tellN
                      rw [hkn9, if_neg (m1_ne (by omega))]
                      exact hux.up (fun z hz => List.mem_append_right _ (List.mem_append_right _ (List.mem_append_right _ (List.mem_append_right _ (List.mem_append_right _ hz)))))
                    have hk0 : kr.1 = 0 → kr.2.2.2 = 0 := fun q9 => by rw [hkn9] at q9; exact absurd q9 (m1_ne (by omega))
                    subst hQ
                    exact thr_out C hex hlocks h (q8, u, gd, (b2, gro cap bd.length, g2, bd), [(o1, .inr (11, [.ref rb, .int (nI lw.length), .int (nI n2), .int (nI nx), .int (nI k2), .ref q0, .ref pk]))] ++ (ringW dA e0 (ra, lm, lx) Rg ++ (O ++ (F ++ ((E ++ E1) ++ E8))))) rfl rfl (⟨⟨hgd, hgb, hsr2, hgc.1, hgc.2⟩, hft, fun x9 hx9 => List.mem_append_right _ (List.mem_append_right _ (memOE hx9)), hk0⟩) rfl hce9 hcv9 hcl9 (by omega) (by omega)
                  exact hu.elim
                · have h0b : 0 < bd.length := by omega
                  rcases Bool.eq_false_or_eq_true (oursL bd) with hou | hou
                  · rcases Bool.eq_false_or_eq_true (sealOk bd) with hso | hso
                    · have h12 := (sealOk_len hbd hso).1
                      refine call_S (As := [.ref o1]) (rest := []) (n := 1) C h (c1_sealY l D dA B Z hZ ([(o1, .inr (11, [.ref rb, .int (nI lw.length), .int (nI n2), .int (nI nx), .int (nI k2), .ref q0, .ref pk])), (ho, .inr (2, [.ref st, .ref fi, .ref bl, .long u.1, .ref wo])), (st, war dA 5 u.2.1), (wo, war dA 80 u.2.2.1), (bl, bar dA 64 u.2.2.2.2), (dg, bar dA 32 gd), (pk, .inr (1, [.ref b2, .int (nI bd.length)])), (b2, bar dA (gro cap bd.length) g2)] ++ (ringW dA e0 (ra, lm, lx) Rg ++ (O ++ (F ++ (E ++ E1))))) o1 rb lw.length n2 nx k2 pk q0 bd (List.mem_of_getElem? (i := 0) rfl) (List.mem_append_right _ (List.mem_append_right _ (List.mem_append_right _ hq2))) hbd hbl h0b hou hso) (lw_S q1291 q1292 q129 q1293) (by decide +kernel) (by decide) (by decide) rfl hl rfl (Nat.le_of_ble_eq_true rfl) dX1_readKeys_258 (by omega) (fun u8 H locs hu8 h => ?_)
                      obtain ⟨se, E3⟩ := u8
                      obtain ⟨hS0, hfr3⟩ := hu8
                      dsimp only at hS0 hfr3 h
                      have h : Wd D B s ([(o1, .inr (11, [.ref rb, .int (nI lw.length), .int (nI n2), .int (nI nx), .int (nI k2), .ref q0, .ref pk])), (ho, .inr (2, [.ref st, .ref fi, .ref bl, .long u.1, .ref wo])), (st, war dA 5 u.2.1), (wo, war dA 80 u.2.2.1), (bl, bar dA 64 u.2.2.2.2), (dg, bar dA 32 gd), (pk, .inr (1, [.ref b2, .int (nI bd.length)])), (b2, bar dA (gro cap bd.length) g2)] ++ (ringW dA e0 (ra, lm, lx) Rg ++ (O ++ (F ++ ((E ++ E1) ++ E3))))) H locs := h.permL (perm_add (fun g f p0 p1 p2 => by (try simp only [p0, p1, p2]) <;> omega))
                      have hS : SealIn dA (F ++ ((E ++ E1) ++ E3)) (se, bd) 0 := by
                        have hm : ∀ z ∈ [(q0, bal dA bd)] ++ E3, z ∈ (F ++ ((E ++ E1) ++ E3)) := by
                          intro z hz
                          rcases List.mem_append.mp hz with y | y
                          · rw [List.mem_singleton.mp y, ← List.append_assoc]; exact List.mem_append_left _ hq2
                          · exact List.mem_append_right _ (List.mem_append_right _ y)
                        exact hS0.sub (fun b q hq => hm _ hq) (fun a fs hq => hm _ hq)
                      have hfr2 : ∀ y, (se, y) ∈ F ++ (E ++ E1) → False := fun y hy => hfr3 y (List.mem_append_right _ (List.mem_append_right _ (List.mem_append_right _ hy)))
                      show W p l e R s m args below meth c H locs (cc + 0 + (rC cap bd.length + 1) + 0 + (bd.length / 2 + 3)) (cs + 0 + (rS cap bd.length + bd.length) + 0 + (5 * bd.length + 22)) Q (F0 m 261 ls [.ref se])
                      have hSc := hS
                      obtain ⟨_, _, _, _, _, _, _, _, _, hscell, _⟩ := hSc
                      dsimp only at hscell
                      have hkw : ∀ z ∈ kyW dA e0 k, z ∈ [(o1, .inr (11, [.ref rb, .int (nI lw.length), .int (nI n2), .int (nI nx), .int (nI k2), .ref q0, .ref pk])), (ho, .inr (2, [.ref st, .ref fi, .ref bl, .long u.1, .ref wo])), (st, war dA 5 u.2.1), (wo, war dA 80 u.2.2.1), (bl, bar dA 64 u.2.2.2.2), (dg, bar dA 32 gd), (pk, .inr (1, [.ref b2, .int (nI bd.length)])), (b2, bar dA (gro cap bd.length) g2)] ++ (ringW dA e0 (ra, lm, lx) Rg ++ (O ++ (F ++ ((E ++ E1) ++ E3)))) := fun z hz => List.mem_append_right _ (List.mem_append_left _ (ky_ring (List.mem_of_getElem? hik) hz))
                      have hrt : ∀ z ∈ (F ++ ((E ++ E1) ++ E3)), z ∈ [(o1, .inr (11, [.ref rb, .int (nI lw.length), .int (nI n2), .int (nI nx), .int (nI k2), .ref q0, .ref pk])), (ho, .inr (2, [.ref st, .ref fi, .ref bl, .long u.1, .ref wo])), (st, war dA 5 u.2.1), (wo, war dA 80 u.2.2.1), (bl, bar dA 64 u.2.2.2.2), (dg, bar dA 32 gd), (pk, .inr (1, [.ref b2, .int (nI bd.length)])), (b2, bar dA (gro cap bd.length) g2)] ++ (ringW dA e0 (ra, lm, lx) Rg ++ (O ++ (F ++ ((E ++ E1) ++ E3)))) := fun z hz => List.mem_append_right _ (List.mem_append_right _ (List.mem_append_right _ hz))
                      have hkS3 : KyS dA cx (F ++ ((E ++ E1) ++ E3)) k := hkS.sub (fun z hz => by rw [← List.append_assoc]; exact List.mem_append_left _ hz)
                      have hmu := List.mem_of_getElem? hjy
                      have hSO : SlOk dA (F ++ ((E ++ E1) ++ E3)) yy.2.2.1 yy.2.2.2 := (hkS3.1.2.2.2.2.2 yy hmu).2
                      have hLI : LIn dA e0 ([(o1, .inr (11, [.ref rb, .int (nI lw.length), .int (nI n2), .int (nI nx), .int (nI k2), .ref q0, .ref pk])), (ho, .inr (2, [.ref st, .ref fi, .ref bl, .long u.1, .ref wo])), (st, war dA 5 u.2.1), (wo, war dA 80 u.2.2.1), (bl, bar dA 64 u.2.2.2.2), (dg, bar dA 32 gd), (pk, .inr (1, [.ref b2, .int (nI bd.length)])), (b2, bar dA (gro cap bd.length) g2)] ++ (ringW dA e0 (ra, lm, lx) Rg ++ (O ++ (F ++ ((E ++ E1) ++ E3))))) yy.2.2.1 (yy.2.2.2.map Prod.fst) := (hSO.sub hrt).lin (fun z hz => KyIn.ptw hkw hmu z (List.mem_append_right _ hz))
                      have hoc := KyIn.ptc hkw hmu
                      obtain ⟨ed9, hcl9⟩ := hLI.cell
                      have hSs : ∀ y ∈ yy.2.2.2, SealB dA ([(o1, .inr (11, [.ref rb, .int (nI lw.length), .int (nI n2), .int (nI nx), .int (nI k2), .ref q0, .ref pk])), (ho, .inr (2, [.ref st, .ref fi, .ref bl, .long u.1, .ref wo])), (st, war dA 5 u.2.1), (wo, war dA 80 u.2.2.1), (bl, bar dA 64 u.2.2.2.2), (dg, bar dA 32 gd), (pk, .inr (1, [.ref b2, .int (nI bd.length)])), (b2, bar dA (gro cap bd.length) g2)] ++ (ringW dA e0 (ra, lm, lx) Rg ++ (O ++ (F ++ ((E ++ E1) ++ E3))))) y := fun y hy => (hSO.2.2.2 y hy).sub hrt
                      have hSz : SealB dA ([(o1, .inr (11, [.ref rb, .int (nI lw.length), .int (nI n2), .int (nI nx), .int (nI k2), .ref q0, .ref pk])), (ho, .inr (2, [.ref st, .ref fi, .ref bl, .long u.1, .ref wo])), (st, war dA 5 u.2.1), (wo, war dA 80 u.2.2.1), (bl, bar dA 64 u.2.2.2.2), (dg, bar dA 32 gd), (pk, .inr (1, [.ref b2, .int (nI bd.length)])), (b2, bar dA (gro cap bd.length) g2)] ++ (ringW dA e0 (ra, lm, lx) Rg ++ (O ++ (F ++ ((E ++ E1) ++ E3))))) (se, bd) := SealB.sub ⟨0, hS⟩ hrt
                      refine lv_astore (lv' := [(10, .ref se), (9, .null), (8, .int (nI 0)), (7, .int (nI 0)), (0, .ref me), (1, .ref ra), (2, .ref ro), (3, .ref o1), (4, .ref k.1), (5, .ref yy.1), (6, .int (nI many))]) hx hb dX1_readKeys_261 hl (by decide) rfl (fun ls hl => ?_)
                      refine lv_aload hx hb dX1_readKeys_263 (lv_at hl 0 rfl) ?_
                      refine lv_ifnull hx hb dX1_readKeys_265 ?_
                      refine lv_aload hx hb dX1_readKeys_268 (lv_at hl 9 rfl) ?_
                      refine lv_aload hx hb dX1_readKeys_270 (lv_at hl 0 rfl) ?_
                      have hlat : latQ (kcK k) ca cj = yy.2.2.2.map Prod.snd := by unfold latQ; rw [if_neg (by omega), if_neg (by omega)]; show ((((k.2.2.2.2.2.map kcP)[cj]?).map Prod.snd).getD []) = _; rw [List.getElem?_map, hjy]; rfl
                      refine call_U (As := [.ref se]) (rest := []) (n := 1) C h (c8_hasX11 l D dA B Z hZ _ yy.1 yy.2.1.1 0 0 e0 yy.2.2.1 yy.2.2.2 (se, bd) hoc hLI hSs hSz) (lw_U q1406 q1408 q1410 q1407 q141 q1412) rfl (by decide +kernel) (o_recv C h (RC := RX11) (T := TX11) (N := 2) (hoc) rfl) (by decide) (by decide) rfl hl rfl (Nat.le_of_ble_eq_true rfl) dX1_readKeys_272 (by omega) (fun _ H locs _ h => ?_)
                      have h : Wd D B s ([(o1, .inr (11, [.ref rb, .int (nI lw.length), .int (nI n2), .int (nI nx), .int (nI k2), .ref q0, .ref pk])), (ho, .inr (2, [.ref st, .ref fi, .ref bl, .long u.1, .ref wo])), (st, war dA 5 u.2.1), (wo, war dA 80 u.2.2.1), (bl, bar dA 64 u.2.2.2.2), (dg, bar dA 32 gd), (pk, .inr (1, [.ref b2, .int (nI bd.length)])), (b2, bar dA (gro cap bd.length) g2)] ++ (ringW dA e0 (ra, lm, lx) Rg ++ (O ++ (F ++ ((E ++ E1) ++ E3))))) H locs := h
                      refine z_if_eq (tgt := 281) hx hb dX1_readKeys_275 (by decide) (fun c275 => ?_) (fun c275 => ?_)
                      · refine lv_aload hx hb dX1_readKeys_281 (lv_at hl 9 rfl) ?_
                        refine o_get C h (RC := RX11) (T := TX11) (N := 2) (hoc) rfl in_X11 0 (by decide) q411 rfl (v := .ref yy.2.2.1.1) rfl dX1_readKeys_283 ?_
                        refine call_VR (As := []) (rest := []) (n := 0) C h (cA_size l D dA B Z hZ _ e0 yy.2.2.1 _ hLI) (lw_V q360 q361 q362 q133 q363) (by decide +kernel) (o_recv C h (RC := RJ2) (T := TJ2) (N := 3) (hcl9) rfl) (by decide) (by decide) rfl hl rfl (Nat.le_of_ble_eq_true rfl) dX1_readKeys_286 (by omega) (fun _ H locs _ h => ?_)
                        have h : Wd D B s ([(o1, .inr (11, [.ref rb, .int (nI lw.length), .int (nI n2), .int (nI nx), .int (nI k2), .ref q0, .ref pk])), (ho, .inr (2, [.ref st, .ref fi, .ref bl, .long u.1, .ref wo])), (st, war dA 5 u.2.1), (wo, war dA 80 u.2.2.1), (bl, bar dA 64 u.2.2.2.2), (dg, bar dA 32 gd), (pk, .inr (1, [.ref b2, .int (nI bd.length)])), (b2, bar dA (gro cap bd.length) g2)] ++ (ringW dA e0 (ra, lm, lx) Rg ++ (O ++ (F ++ ((E ++ E1) ++ E3))))) H locs := h
                        rw [List.length_map]
                        refine lv_bipush (v := nI 16) hx hb dX1_readKeys_289 (by decide) ?_
                        have h166 := hSO.2.2.1
                        refine n_icmp_ne (tgt := 299) hx hb (by omega) (by omega) dX1_readKeys_291 (by decide) (fun c291 => ?_) (fun c291 => ?_)
                        · refine lv_aload hx hb dX1_readKeys_299 (lv_at hl 9 rfl) ?_
                          refine o_get C h (RC := RX11) (T := TX11) (N := 2) (hoc) rfl in_X11 0 (by decide) q411 rfl (v := .ref yy.2.2.1.1) rfl dX1_readKeys_301 ?_
                          refine lv_aload hx hb dX1_readKeys_304 (lv_at hl 0 rfl) ?_
                          obtain ⟨Y9, hY1, hY2⟩ := addP_perm (dA := dA) (e0 := e0) (rl := (ra, lm, lx)) hik hjy
                          have h : Wd D B s (ringW dA e0 (ra, lm, lx) Rg ++ (([(o1, .inr (11, [.ref rb, .int (nI lw.length), .int (nI n2), .int (nI nx), .int (nI k2), .ref q0, .ref pk])), (ho, .inr (2, [.ref st, .ref fi, .ref bl, .long u.1, .ref wo])), (st, war dA 5 u.2.1), (wo, war dA 80 u.2.2.1), (bl, bar dA 64 u.2.2.2.2), (dg, bar dA 32 gd), (pk, .inr (1, [.ref b2, .int (nI bd.length)])), (b2, bar dA (gro cap bd.length) g2)] ++ O) ++ (F ++ ((E ++ E1) ++ E3)))) H locs := h.permL (perm_add (fun g f p0 p1 p2 => by (try simp only [p0, p1, p2]) <;> omega))
                          refine call_VR (As := [.ref se]) (rest := []) (n := 1) C h (cR_add l D dA B Z hZ (ringW dA e0 (ra, lm, lx) Rg) Y9 ([(o1, .inr (11, [.ref rb, .int (nI lw.length), .int (nI n2), .int (nI nx), .int (nI k2), .ref q0, .ref pk])), (ho, .inr (2, [.ref st, .ref fi, .ref bl, .long u.1, .ref wo])), (st, war dA 5 u.2.1), (wo, war dA 80 u.2.2.1), (bl, bar dA 64 u.2.2.2.2), (dg, bar dA 32 gd), (pk, .inr (1, [.ref b2, .int (nI bd.length)])), (b2, bar dA (gro cap bd.length) g2)] ++ O) (F ++ ((E ++ E1) ++ E3)) e0 mi yy.2.2.1 yy.2.2.2 (se, bd) _ hzs hza hY1 hSO hscell (by omega)) (lw_V q548 q518 q519 q133 q520) (by decide +kernel) (o_recv C h (RC := RJ2) (T := TJ2) (N := 3) (List.mem_append_left _ (hY1.mem_iff.mpr (List.mem_append_left _ (lW_cell dA e0 yy.2.2.1 yy.2.2.2.length).choose_spec))) rfl) (by decide) (by decide) rfl hl rfl (Nat.le_of_ble_eq_true rfl) dX1_readKeys_306 (by omega) (fun u8 H locs hu8 h => ?_)
                          obtain ⟨⟨xa9, xm9, xx9⟩, E4⟩ := u8
                          obtain ⟨hxa, hAL9⟩ := hu8
                          dsimp only at hxa hAL9 h
                          obtain ⟨k8, hk8⟩ : ∃ z, z = kP k k.2.2.2.2.1 (k.2.2.2.2.2.set cj (pS yy (xa9, xm9, xx9) (yy.2.2.2 ++ [(se, bd)]))) := ⟨_, rfl⟩
                          obtain ⟨R9, hR9⟩ : ∃ z, z = Rg.set ci k8 := ⟨_, rfl⟩
                          have hY3 := hY2 (xa9, xm9, xx9) (se, bd) hxa
                          rw [← hk8, ← hR9] at hY3
                          have h : Wd D B s (ringW dA e0 (ra, lm, lx) R9 ++ (([(o1, .inr (11, [.ref rb, .int (nI lw.length), .int (nI n2), .int (nI nx), .int (nI k2), .ref q0, .ref pk])), (ho, .inr (2, [.ref st, .ref fi, .ref bl, .long u.1, .ref wo])), (st, war dA 5 u.2.1), (wo, war dA 80 u.2.2.1), (bl, bar dA 64 u.2.2.2.2), (dg, bar dA 32 gd), (pk, .inr (1, [.ref b2, .int (nI bd.length)])), (b2, bar dA (gro cap bd.length) g2)] ++ O) ++ ((F ++ ((E ++ E1) ++ E3)) ++ E4))) H locs := h.permL (hY3.append_right _)
                          have h : Wd D B s ([(o1, .inr (11, [.ref rb, .int (nI lw.length), .int (nI n2), .int (nI nx), .int (nI k2), .ref q0, .ref pk])), (ho, .inr (2, [.ref st, .ref fi, .ref bl, .long u.1, .ref wo])), (st, war dA 5 u.2.1), (wo, war dA 80 u.2.2.1), (bl, bar dA 64 u.2.2.2.2), (dg, bar dA 32 gd), (pk, .inr (1, [.ref b2, .int (nI bd.length)])), (b2, bar dA (gro cap bd.length) g2)] ++ (ringW dA e0 (ra, lm, lx) R9 ++ (O ++ (F ++ (((E ++ E1) ++ E3) ++ E4))))) H locs := h.permL (perm_add (fun g f p0 p1 p2 => by (try simp only [p0, p1, p2]) <;> omega))
                          have hse0 : ∀ z ∈ (F ++ ((E ++ E1) ++ E3)), z ∈ (F ++ (((E ++ E1) ++ E3) ++ E4)) := fun z hz => by rw [← List.append_assoc]; exact List.mem_append_left _ hz
                          have hRg3 : RgS dA (cxA cx se (ptM k.2.1.2.1 yy.2.1.2.1, k.2.1.2.1)) (F ++ (((E ++ E1) ++ E3) ++ E4)) (ra, lm, lx) R9 := by
                            have z0 : RgS dA (cxA cx se (ptM k.2.1.2.1 yy.2.1.2.1, k.2.1.2.1)) (F ++ (E ++ E1)) (ra, lm, lx) Rg := hRg1.cx hfr2
                            have z : RgS dA (cxA cx se (ptM k.2.1.2.1 yy.2.1.2.1, k.2.1.2.1)) (F ++ (((E ++ E1) ++ E3) ++ E4)) (ra, lm, lx) Rg := z0.sub (fun y hy => hse0 y (by rw [← List.append_assoc]; exact List.mem_append_left _ hy))
                            have zk := z.2 k (List.mem_of_getElem? hik)
                            have hS9 : SealIn dA (F ++ (((E ++ E1) ++ E3) ++ E4)) (se, bd) 0 := hS.sub (fun b q hq => hse0 _ hq) (fun a fs hq => hse0 _ hq)
                            have hST9 : SealT dA (cxA cx se (ptM k.2.1.2.1 yy.2.1.2.1, k.2.1.2.1)) (F ++ (((E ++ E1) ++ E3) ++ E4)) (se, bd) := ⟨0, hS9, Or.inl rfl⟩
                            have hSO9 : SlOk dA (F ++ (((E ++ E1) ++ E3) ++ E4)) (xa9, xm9, xx9) (yy.2.2.2 ++ [(se, bd)]) := hSO.snoc hse0 hAL9 (by omega) ⟨0, hS9⟩
                            rw [hR9, hk8]
                            exact z.set hik rfl (zk.addP hjy hSO9 hST9 cxA_eq)
                          have hcx3 : ∀ a y, (a, y) ∈ F → (cxA cx se (ptM k.2.1.2.1 yy.2.1.2.1, k.2.1.2.1)) a = cx0 a := fun a y hy => by
                            have hne : a ≠ se := fun q => hfr2 y (by rw [← q]; exact List.mem_append_left _ hy)
                            rw [cxA_ne hne]; exact hcx a y hy
                          have hcur3 : CurA R9 (some (ci, ca, cj)) (some k.1) (some yy.1) := ⟨k8, by rw [hR9]; exact List.getElem?_set_self (List.getElem?_eq_some_iff.mp hik).1, by rw [hk8]; rfl, Or.inr (Or.inr ⟨hc0, pS yy (xa9, xm9, xx9) (yy.2.2.2 ++ [(se, bd)]), by rw [hk8]; exact List.getElem?_set_self (List.getElem?_eq_some_iff.mp hjy).1, rfl⟩)⟩
                          have hadd : addN (kcK k) ca cj bd = kcK k8 := by unfold addN; rw [if_neg (by omega), if_neg (by omega), hk8]; show _ = (k.2.1.2, k.2.2.1.2.map Prod.snd, k.2.2.2.1.2.map kcU, (k.2.2.2.2.2.set cj (pS yy (xa9, xm9, xx9) (yy.2.2.2 ++ [(se, bd)]))).map kcP); rw [← mod_map (f := fun u : PCt => (u.1, u.2 ++ [bd])) hjy (by unfold kcP pS; dsimp only; rw [List.map_append]; rfl)]; rfl
                          have hp3 : pkN (Rg.map kcK, some (ci, ca, cj), many) k2 bd = some (R9.map kcK, some (ci, ca, cj), many) := by rw [hun]; unfold undN; rw [if_neg (by omega), if_neg (by omega), if_pos hk]; show sealN2 _ ci ca cj (kcK k) bd = _; unfold sealN2; rw [if_neg (by omega), if_neg (by rw [hou]; decide), if_neg (by rw [hso]; decide), hlat, map_any, if_neg (by rw [c275]; decide), List.length_map, if_neg (by omega), hadd, hR9]; show some ((Rg.map kcK).set ci (kcK k8), _) = _; rw [set_map (y := k8) rfl]
                          refine lv_pop hx hb dX1_readKeys_309 rfl ?_
                          refine lv_goto (tgt := 22) hx hb dX1_readKeys_310 (by decide) ?_
                          exact ih n2 nx k2 (some q0) b2 (gro cap bd.length) g2 bd u gd lm lx R9 (cxA cx se (ptM k.2.1.2.1 yy.2.1.2.1, k.2.1.2.1)) (some (ci, ca, cj)) (some k.1) (some yy.1) many (fu - 1) (((E ++ E1) ++ E3) ++ E4) _ _ hadv.1 hsr2 hgc.1 hgc.2 hgb hgd hRg3 hcx3 hcur3 (hkn.trans (keysN_go hnl hfu0 hpk9 hp3)) (by omega) (by omega) (by (try dsimp only) <;> omega) (by (try dsimp only) <;> omega) (by omega) _ _ h _ (lv_sub hl [4, 5, 6, 7, 8, 9, 10] rfl)
                        · refine lv_aload_n hx hb dX1_readKeys_294 rfl (lv_at hl 7 rfl) ?_
                          refine call_VR (As := []) (rest := []) (n := 0) C h (c14_fault l D dA B Z hZ _ o1 rb lw.length n2 nx k2 pk (some q0) hlt hzx (List.mem_of_getElem? (i := 0) rfl)) (lw_V q1088 q1064 q1065 q162 q1066) (by decide +kernel) (o_recv C h (RC := RX14) (T := TX14) (N := 7) (List.mem_of_getElem? (i := 0) rfl) rfl) (by decide) (by decide) rfl hl rfl (Nat.le_of_ble_eq_true rfl) dX1_readKeys_295 (by omega) (fun u8 H locs _ h => ?_)
                          obtain ⟨q9, x9⟩ := u8
                          have h : Wd D B s ([(q9, .inr (10, fts x9 (-1 - nI nx))), (o1, .inr (11, [.ref rb, .int (nI lw.length), .int (nI n2), .int (nI nx), .int (nI k2), .ref q0, .ref pk])), (ho, .inr (2, [.ref st, .ref fi, .ref bl, .long u.1, .ref wo])), (st, war dA 5 u.2.1), (wo, war dA 80 u.2.2.1), (bl, bar dA 64 u.2.2.2.2), (dg, bar dA 32 gd), (pk, .inr (1, [.ref b2, .int (nI bd.length)])), (b2, bar dA (gro cap bd.length) g2)] ++ (ringW dA e0 (ra, lm, lx) Rg ++ (O ++ (F ++ ((E ++ E1) ++ E3))))) H locs := h
                          subst hQ
                          have hkn9 := hkn.trans (keysN_bad hnl hfu0 hpk9 (by rw [hun]; unfold undN; rw [if_neg (by omega), if_neg (by omega), if_pos hk]; show sealN2 _ ci ca cj (kcK k) bd = _; unfold sealN2; rw [if_neg (by omega), if_neg (by rw [hou]; decide), if_neg (by rw [hso]; decide), hlat, map_any, if_neg (by rw [c275]; decide), List.length_map, if_pos (by omega)]))
                          have h : Wd D B s ([(ho, .inr (2, [.ref st, .ref fi, .ref bl, .long u.1, .ref wo])), (st, war dA 5 u.2.1), (wo, war dA 80 u.2.2.1), (bl, bar dA 64 u.2.2.2.2)] ++ ([(dg, bar dA 32 gd), (pk, .inr (1, [.ref b2, .int (nI bd.length)])), (b2, bar dA (gro cap bd.length) g2)] ++ ([(q9, .inr (10, fts x9 (-1 - nI nx)))] ++ ([(o1, .inr (11, [.ref rb, .int (nI lw.length), .int (nI n2), .int (nI nx), .int (nI k2), .ref q0, .ref pk]))] ++ (ringW dA e0 (ra, lm, lx) Rg ++ (O ++ (F ++ ((E ++ E1) ++ E3)))))))) H locs := h.permL (perm_add (fun g f p0 p1 p2 => by (try simp only [p0, p1, p2]) <;> omega))
                          have h : Wd D B s (h4C dA ho st fi bl wo u ++ ([(dg, bar dA 32 gd), (pk, .inr (1, [.ref b2, .int (nI bd.length)])), (b2, bar dA (gro cap bd.length) g2)] ++ ([(q9, .inr (10, fts x9 (-1 - nI nx)))] ++ ([(o1, .inr (11, [.ref rb, .int (nI lw.length), .int (nI n2), .int (nI nx), .int (nI k2), .ref q0, .ref pk]))] ++ (ringW dA e0 (ra, lm, lx) Rg ++ (O ++ (F ++ ((E ++ E1) ++ E3)))))))) H locs := h
                          have hft : FaultIn ([(q9, .inr (10, fts x9 (-1 - nI nx)))] ++ ([(o1, .inr (11, [.ref rb, .int (nI lw.length), .int (nI n2), .int (nI nx), .int (nI k2), .ref q0, .ref pk]))] ++ (ringW dA e0 (ra, lm, lx) Rg ++ (O ++ (F ++ ((E ++ E1) ++ E3)))))) q9 (tellN kr lw.length) := by
                            unfold tellN
                            rw [hkn9, if_neg (m1_ne (by omega))]
                            exact ⟨x9, List.mem_append_left _ List.mem_cons_self⟩
                          have hk0 : kr.1 = 0 → kr.2.2.2 = 0 := fun q9 => by rw [hkn9] at q9; exact absurd q9 (m1_ne (by omega))
                          exact x_athrow C hex hlocks h (List.mem_append_right _ (List.mem_append_right _ (List.mem_append_left _ List.mem_cons_self))) rfl (q9, u, gd, (b2, gro cap bd.length, g2, bd), [(q9, .inr (10, fts x9 (-1 - nI nx)))] ++ ([(o1, .inr (11, [.ref rb, .int (nI lw.length), .int (nI n2), .int (nI nx), .int (nI k2), .ref q0, .ref pk]))] ++ (ringW dA e0 (ra, lm, lx) Rg ++ (O ++ (F ++ ((E ++ E1) ++ E3)))))) rfl rfl (⟨⟨hgd, hgb, hsr2, hgc.1, hgc.2⟩, hft, fun x9 hx9 => List.mem_append_right _ (List.mem_append_right _ (List.mem_append_right _ (memOE hx9))), hk0⟩) rfl (by omega) (by omega) dX1_readKeys_298
                      · have hp3 : pkN (Rg.map kcK, some (ci, ca, cj), many) k2 bd = some (Rg.map kcK, some (ci, ca, cj), many) := by rw [hun]; unfold undN; rw [if_neg (by omega), if_neg (by omega), if_pos hk]; show sealN2 _ ci ca cj (kcK k) bd = _; unfold sealN2; rw [if_neg (by omega), if_neg (by rw [hou]; decide), if_neg (by rw [hso]; decide), hlat, map_any, if_pos c275]
                        have hcur3 : CurA Rg (some (ci, ca, cj)) (some k.1) (some yy.1) := ⟨k, hik, rfl, Or.inr (Or.inr ⟨hc0, yy, hjy, rfl⟩)⟩
                        have hRg3 : RgS dA cx (F ++ ((E ++ E1) ++ E3)) (ra, lm, lx) Rg := hRg1.sub (fun z hz => by rw [← List.append_assoc]; exact List.mem_append_left _ hz)
                        refine lv_goto (tgt := 22) hx hb dX1_readKeys_278 (by decide) ?_
                        exact ih n2 nx k2 (some q0) b2 (gro cap bd.length) g2 bd u gd lm lx Rg cx (some (ci, ca, cj)) (some k.1) (some yy.1) many (fu - 1) ((E ++ E1) ++ E3) _ _ hadv.1 hsr2 hgc.1 hgc.2 hgb hgd hRg3 hcx hcur3 (hkn.trans (keysN_go hnl hfu0 hpk9 hp3)) (by omega) (by omega) (by (try dsimp only) <;> omega) (by (try dsimp only) <;> omega) (by omega) _ _ h _ (lv_sub hl [4, 5, 6, 7, 8, 9, 10] rfl)
                    · refine call_SX (As := [.ref o1]) (rest := []) (n := 1) C h (c1_sealX l D dA B Z hZ ([(o1, .inr (11, [.ref rb, .int (nI lw.length), .int (nI n2), .int (nI nx), .int (nI k2), .ref q0, .ref pk])), (ho, .inr (2, [.ref st, .ref fi, .ref bl, .long u.1, .ref wo])), (st, war dA 5 u.2.1), (wo, war dA 80 u.2.2.1), (bl, bar dA 64 u.2.2.2.2), (dg, bar dA 32 gd), (pk, .inr (1, [.ref b2, .int (nI bd.length)])), (b2, bar dA (gro cap bd.length) g2)] ++ (ringW dA e0 (ra, lm, lx) Rg ++ (O ++ (F ++ (E ++ E1))))) o1 rb lw.length n2 nx k2 pk q0 bd hlt hzx (List.mem_of_getElem? (i := 0) rfl) (List.mem_append_right _ (List.mem_append_right _ (List.mem_append_right _ hq2))) hbd hbl (Or.inr ⟨hou, hso⟩)) (lw_S q1291 q1292 q129 q1293) (by decide +kernel) (by decide) (by decide) rfl hl rfl (Nat.le_of_ble_eq_true rfl) dX1_readKeys_258 (by omega) (fun ux ce9 H locs hux h hce9 hcv9 hcl9 => ?_) (fun _ H locs hu h => ?_)
                      · obtain ⟨q8, E8⟩ := ux
                        dsimp only at hux h
                        have hkn9 := hkn.trans (keysN_bad hnl hfu0 hpk9 (by rw [hun]; unfold undN; rw [if_neg (by omega), if_neg (by omega), if_pos hk]; show sealN2 _ ci ca cj (kcK k) bd = _; unfold sealN2; rw [if_neg (by omega), if_neg (by rw [hou]; decide), if_pos hso]))
                        have h : Wd D B s ([(ho, .inr (2, [.ref st, .ref fi, .ref bl, .long u.1, .ref wo])), (st, war dA 5 u.2.1), (wo, war dA 80 u.2.2.1), (bl, bar dA 64 u.2.2.2.2)] ++ ([(dg, bar dA 32 gd), (pk, .inr (1, [.ref b2, .int (nI bd.length)])), (b2, bar dA (gro cap bd.length) g2)] ++ ([(o1, .inr (11, [.ref rb, .int (nI lw.length), .int (nI n2), .int (nI nx), .int (nI k2), .ref q0, .ref pk]))] ++ (ringW dA e0 (ra, lm, lx) Rg ++ (O ++ (F ++ ((E ++ E1) ++ E8))))))) H locs := h.permL (perm_add (fun g f p0 p1 p2 => by (try simp only [p0, p1, p2]) <;> omega))
                        have h : Wd D B s (h4C dA ho st fi bl wo u ++ ([(dg, bar dA 32 gd), (pk, .inr (1, [.ref b2, .int (nI bd.length)])), (b2, bar dA (gro cap bd.length) g2)] ++ ([(o1, .inr (11, [.ref rb, .int (nI lw.length), .int (nI n2), .int (nI nx), .int (nI k2), .ref q0, .ref pk]))] ++ (ringW dA e0 (ra, lm, lx) Rg ++ (O ++ (F ++ ((E ++ E1) ++ E8))))))) H locs := h
                        have hft : FaultIn ([(o1, .inr (11, [.ref rb, .int (nI lw.length), .int (nI n2), .int (nI nx), .int (nI k2), .ref q0, .ref pk]))] ++ (ringW dA e0 (ra, lm, lx) Rg ++ (O ++ (F ++ ((E ++ E1) ++ E8))))) q8 (tellN kr lw.length) := by
                          unfold tellN
                          rw [hkn9, if_neg (m1_ne (by omega))]
                          exact hux.up (fun z hz => List.mem_append_right _ (List.mem_append_right _ (List.mem_append_right _ (List.mem_append_right _ (List.mem_append_right _ hz)))))
                        have hk0 : kr.1 = 0 → kr.2.2.2 = 0 := fun q9 => by rw [hkn9] at q9; exact absurd q9 (m1_ne (by omega))
                        subst hQ
                        exact thr_out C hex hlocks h (q8, u, gd, (b2, gro cap bd.length, g2, bd), [(o1, .inr (11, [.ref rb, .int (nI lw.length), .int (nI n2), .int (nI nx), .int (nI k2), .ref q0, .ref pk]))] ++ (ringW dA e0 (ra, lm, lx) Rg ++ (O ++ (F ++ ((E ++ E1) ++ E8))))) rfl rfl (⟨⟨hgd, hgb, hsr2, hgc.1, hgc.2⟩, hft, fun x9 hx9 => List.mem_append_right _ (List.mem_append_right _ (memOE hx9)), hk0⟩) rfl hce9 hcv9 hcl9 (by omega) (by omega)
                      exact hu.elim
                  · refine call_S (As := [.ref o1]) (rest := []) (n := 1) C h (c1_sealZ l D dA B Z hZ ([(o1, .inr (11, [.ref rb, .int (nI lw.length), .int (nI n2), .int (nI nx), .int (nI k2), .ref q0, .ref pk])), (ho, .inr (2, [.ref st, .ref fi, .ref bl, .long u.1, .ref wo])), (st, war dA 5 u.2.1), (wo, war dA 80 u.2.2.1), (bl, bar dA 64 u.2.2.2.2), (dg, bar dA 32 gd), (pk, .inr (1, [.ref b2, .int (nI bd.length)])), (b2, bar dA (gro cap bd.length) g2)] ++ (ringW dA e0 (ra, lm, lx) Rg ++ (O ++ (F ++ (E ++ E1))))) o1 rb lw.length n2 nx k2 pk q0 bd (List.mem_of_getElem? (i := 0) rfl) (List.mem_append_right _ (List.mem_append_right _ (List.mem_append_right _ hq2))) hbd hbl h0b hou) (lw_S q1291 q1292 q129 q1293) (by decide +kernel) (by decide) (by decide) rfl hl rfl (Nat.le_of_ble_eq_true rfl) dX1_readKeys_258 (by omega) (fun _ H locs _ h => ?_)
                    have hp3 : pkN (Rg.map kcK, some (ci, ca, cj), many) k2 bd = some (Rg.map kcK, some (ci, ca, cj), many) := by rw [hun]; unfold undN; rw [if_neg (by omega), if_neg (by omega), if_pos hk]; show sealN2 _ ci ca cj (kcK k) bd = _; unfold sealN2; rw [if_neg (by omega), if_pos hou]
                    have hcur3 : CurA Rg (some (ci, ca, cj)) (some k.1) (some yy.1) := ⟨k, hik, rfl, Or.inr (Or.inr ⟨hc0, yy, hjy, rfl⟩)⟩
                    refine lv_astoreN (lv' := [(10, .null), (9, .null), (8, .int (nI 0)), (7, .int (nI 0)), (0, .ref me), (1, .ref ra), (2, .ref ro), (3, .ref o1), (4, .ref k.1), (5, .ref yy.1), (6, .int (nI many))]) hx hb dX1_readKeys_261 hl (by decide) rfl (fun ls hl => ?_)
                    refine lv_aloadN hx hb dX1_readKeys_263 (lv_at hl 0 rfl) ?_
                    refine lv_ifnullN (tgt := 22) hx hb dX1_readKeys_265 (by decide) ?_
                    exact ih n2 nx k2 (some q0) b2 (gro cap bd.length) g2 bd u gd lm lx Rg cx (some (ci, ca, cj)) (some k.1) (some yy.1) many (fu - 1) (E ++ E1) _ _ hadv.1 hsr2 hgc.1 hgc.2 hgb hgd hRg1 hcx hcur3 (hkn.trans (keysN_go hnl hfu0 hpk9 hp3)) (by omega) (by omega) (by (try dsimp only) <;> omega) (by (try dsimp only) <;> omega) (by omega) _ _ h _ (lv_sub hl [4, 5, 6, 7, 8, 9, 10] rfl)
          · have hkp : ¬ (k2 = 10 ∨ k2 = 12 ∨ k2 = 17 ∨ 40 ≤ k2) := by omega
            have hk56 : ¬ (k2 = 5 ∨ k2 = 6) := by omega
            rcases cu with _ | c8
            · obtain ⟨hko, hlo⟩ := hcur
              rw [hko, hlo] at hl
              have hl : lv_has ls 11 [(0, .ref me), (1, .ref ra), (2, .ref ro), (3, .ref o1), (4, .null), (5, .null), (6, .int (nI many))] := hl
              refine lv_aload_n hx hb dX1_readKeys_33 rfl (lv_at hl 3 rfl) ?_
              refine call_VR (As := []) (rest := []) (n := 0) C h (c14_isPassed l D dA B Z hZ ([(ho, .inr (2, [.ref st, .ref fi, .ref bl, .long u.1, .ref wo])), (st, war dA 5 u.2.1), (wo, war dA 80 u.2.2.1), (bl, bar dA 64 u.2.2.2.2), (dg, bar dA 32 gd), (pk, .inr (1, [.ref b2, .int (nI bd.length)])), (b2, bar dA (gro cap bd.length) g2)] ++ (ringW dA e0 (ra, lm, lx) Rg ++ (O ++ (F ++ (E ++ E1))))) o1 rb pk lw.length n2 nx k2 bo2 (by omega)) (lw_V q1084 q1085 q1086 q162 q1087) (by decide +kernel) (o_recv C h (RC := RX14) (T := TX14) (N := 7) (List.mem_of_getElem? (i := 0) rfl) rfl) (by decide) (by decide) rfl hl rfl (Nat.le_of_ble_eq_true rfl) dX1_readKeys_34 (by omega) (fun _ H locs _ h => ?_)
              have h : Wd D B s ([(o1, .inr (11, [.ref rb, .int (nI lw.length), .int (nI n2), .int (nI nx), .int (nI k2), va_rf bo2, .ref pk])), (ho, .inr (2, [.ref st, .ref fi, .ref bl, .long u.1, .ref wo])), (st, war dA 5 u.2.1), (wo, war dA 80 u.2.2.1), (bl, bar dA 64 u.2.2.2.2), (dg, bar dA 32 gd), (pk, .inr (1, [.ref b2, .int (nI bd.length)])), (b2, bar dA (gro cap bd.length) g2)] ++ (ringW dA e0 (ra, lm, lx) Rg ++ (O ++ (F ++ (E ++ E1))))) H locs := h
              have h : Wd D B s ([(o1, .inr (11, [.ref rb, .int (nI lw.length), .int (nI n2), .int (nI nx), .int (nI k2), va_rf bo2, .ref pk])), (ho, .inr (2, [.ref st, .ref fi, .ref bl, .long u.1, .ref wo])), (st, war dA 5 u.2.1), (wo, war dA 80 u.2.2.1), (bl, bar dA 64 u.2.2.2.2), (dg, bar dA 32 gd), (pk, .inr (1, [.ref b2, .int (nI bd.length)])), (b2, bar dA (gro cap bd.length) g2)] ++ (ringW dA e0 (ra, lm, lx) Rg ++ (O ++ (F ++ (E ++ E1))))) H locs := h.permL (perm_add (fun g f p0 p1 p2 => by (try simp only [p0, p1, p2]) <;> omega))
              refine z_if_eq (tgt := 43) hx hb dX1_readKeys_37 (by decide) (fun c37 => ?_) (fun c37 => by exfalso; exact hkp (of_decide_eq_true c37))
              refine lv_aload_n hx hb dX1_readKeys_43 rfl (lv_at hl 3 rfl) ?_
              refine o_get C h (RC := RX14) (T := TX14) (N := 7) (List.mem_of_getElem? (i := 0) rfl) rfl in_X14 4 (by decide) q1031 rfl (v := .int (nI k2)) rfl dX1_readKeys_44 ?_
              refine lv_bipush (v := nI 6) hx hb dX1_readKeys_47 (by decide) ?_
              refine n_icmp_eq (tgt := 60) hx hb (by omega) (by omega) dX1_readKeys_49 (by decide) (fun c49 => by exfalso; omega) (fun c49 => ?_)
              refine lv_aload_n hx hb dX1_readKeys_52 rfl (lv_at hl 3 rfl) ?_
              refine o_get C h (RC := RX14) (T := TX14) (N := 7) (List.mem_of_getElem? (i := 0) rfl) rfl in_X14 4 (by decide) q1031 rfl (v := .int (nI k2)) rfl dX1_readKeys_53 ?_
              refine lv_iconst (v := nI 5) hx hb dX1_readKeys_56 (by decide) ?_
              refine n_icmp_ne (tgt := 64) hx hb (by omega) (by omega) dX1_readKeys_57 (by decide) (fun c57 => ?_) (fun c57 => by exfalso; omega)
              refine lv_iconst (v := nI 0) hx hb dX1_readKeys_64 (by decide) ?_
              refine lv_istore (lv' := [(7, .int (nI 0)), (0, .ref me), (1, .ref ra), (2, .ref ro), (3, .ref o1), (4, .null), (5, .null), (6, .int (nI many))]) hx hb dX1_readKeys_65 hl (by decide) rfl (fun ls hl => ?_)
              refine lv_aload_n hx hb dX1_readKeys_67 rfl (lv_at hl 4 rfl) ?_
              refine o_get C h (RC := RX14) (T := TX14) (N := 7) (List.mem_of_getElem? (i := 0) rfl) rfl in_X14 4 (by decide) q1031 rfl (v := .int (nI k2)) rfl dX1_readKeys_68 ?_
              refine lv_bipush (v := nI 14) hx hb dX1_readKeys_71 (by decide) ?_
              refine n_icmp_eq (tgt := 85) hx hb (by omega) (by omega) dX1_readKeys_73 (by decide) (fun c73 => by exfalso; omega) (fun c73 => ?_)
              refine lv_aload_n hx hb dX1_readKeys_76 rfl (lv_at hl 4 rfl) ?_
              refine o_get C h (RC := RX14) (T := TX14) (N := 7) (List.mem_of_getElem? (i := 0) rfl) rfl in_X14 4 (by decide) q1031 rfl (v := .int (nI k2)) rfl dX1_readKeys_77 ?_
              refine lv_bipush (v := nI 7) hx hb dX1_readKeys_80 (by decide) ?_
              refine n_icmp_ne (tgt := 89) hx hb (by omega) (by omega) dX1_readKeys_82 (by decide) (fun c82 => ?_) (fun c82 => by exfalso; omega)
              refine lv_iconst (v := nI 0) hx hb dX1_readKeys_89 (by decide) ?_
              refine lv_istore (lv' := [(8, .int (nI 0)), (7, .int (nI 0)), (0, .ref me), (1, .ref ra), (2, .ref ro), (3, .ref o1), (4, .null), (5, .null), (6, .int (nI many))]) hx hb dX1_readKeys_90 hl (by decide) rfl (fun ls hl => ?_)
              refine lv_iload hx hb dX1_readKeys_92 (lv_at hl 1 rfl) ?_
              refine n_if_ne (tgt := 129) hx hb (by omega) dX1_readKeys_94 (by decide) (fun c94 => by exfalso; omega) (fun c94 => ?_)
              refine lv_aloadN hx hb dX1_readKeys_97 (lv_at hl 6 rfl) ?_
              refine lv_ifnullN (tgt := 124) hx hb dX1_readKeys_99 (by decide) ?_
              refine lv_aload_n hx hb dX1_readKeys_124 rfl (lv_at hl 5 rfl) ?_
              refine call_VR (As := []) (rest := []) (n := 0) C h (c14_fault l D dA B Z hZ _ o1 rb lw.length n2 nx k2 pk bo2 hlt hzx (List.mem_of_getElem? (i := 0) rfl)) (lw_V q1088 q1064 q1065 q162 q1066) (by decide +kernel) (o_recv C h (RC := RX14) (T := TX14) (N := 7) (List.mem_of_getElem? (i := 0) rfl) rfl) (by decide) (by decide) rfl hl rfl (Nat.le_of_ble_eq_true rfl) dX1_readKeys_125 (by omega) (fun u8 H locs _ h => ?_)
              obtain ⟨q9, x9⟩ := u8
              have h : Wd D B s ([(q9, .inr (10, fts x9 (-1 - nI nx))), (o1, .inr (11, [.ref rb, .int (nI lw.length), .int (nI n2), .int (nI nx), .int (nI k2), va_rf bo2, .ref pk])), (ho, .inr (2, [.ref st, .ref fi, .ref bl, .long u.1, .ref wo])), (st, war dA 5 u.2.1), (wo, war dA 80 u.2.2.1), (bl, bar dA 64 u.2.2.2.2), (dg, bar dA 32 gd), (pk, .inr (1, [.ref b2, .int (nI bd.length)])), (b2, bar dA (gro cap bd.length) g2)] ++ (ringW dA e0 (ra, lm, lx) Rg ++ (O ++ (F ++ (E ++ E1))))) H locs := h
              subst hQ
              have hkn9 := hkn.trans (keysN_bad hnl hfu0 hpk9 (pkN_no hkp hk56 rfl))
              have h : Wd D B s ([(ho, .inr (2, [.ref st, .ref fi, .ref bl, .long u.1, .ref wo])), (st, war dA 5 u.2.1), (wo, war dA 80 u.2.2.1), (bl, bar dA 64 u.2.2.2.2)] ++ ([(dg, bar dA 32 gd), (pk, .inr (1, [.ref b2, .int (nI bd.length)])), (b2, bar dA (gro cap bd.length) g2)] ++ ([(q9, .inr (10, fts x9 (-1 - nI nx)))] ++ ([(o1, .inr (11, [.ref rb, .int (nI lw.length), .int (nI n2), .int (nI nx), .int (nI k2), va_rf bo2, .ref pk]))] ++ (ringW dA e0 (ra, lm, lx) Rg ++ (O ++ (F ++ (E ++ E1)))))))) H locs := h.permL (perm_add (fun g f p0 p1 p2 => by (try simp only [p0, p1, p2]) <;> omega))
              have h : Wd D B s (h4C dA ho st fi bl wo u ++ ([(dg, bar dA 32 gd), (pk, .inr (1, [.ref b2, .int (nI bd.length)])), (b2, bar dA (gro cap bd.length) g2)] ++ ([(q9, .inr (10, fts x9 (-1 - nI nx)))] ++ ([(o1, .inr (11, [.ref rb, .int (nI lw.length), .int (nI n2), .int (nI nx), .int (nI k2), va_rf bo2, .ref pk]))] ++ (ringW dA e0 (ra, lm, lx) Rg ++ (O ++ (F ++ (E ++ E1)))))))) H locs := h
              have hft : FaultIn ([(q9, .inr (10, fts x9 (-1 - nI nx)))] ++ ([(o1, .inr (11, [.ref rb, .int (nI lw.length), .int (nI n2), .int (nI nx), .int (nI k2), va_rf bo2, .ref pk]))] ++ (ringW dA e0 (ra, lm, lx) Rg ++ (O ++ (F ++ (E ++ E1)))))) q9 (tellN kr lw.length) := by
                unfold tellN
                rw [hkn9, if_neg (m1_ne (by omega))]
                exact ⟨x9, List.mem_append_left _ List.mem_cons_self⟩
              have hk0 : kr.1 = 0 → kr.2.2.2 = 0 := fun q9 => by rw [hkn9] at q9; exact absurd q9 (m1_ne (by omega))
              exact x_athrow C hex hlocks h (List.mem_append_right _ (List.mem_append_right _ (List.mem_append_left _ List.mem_cons_self))) rfl (q9, u, gd, (b2, gro cap bd.length, g2, bd), [(q9, .inr (10, fts x9 (-1 - nI nx)))] ++ ([(o1, .inr (11, [.ref rb, .int (nI lw.length), .int (nI n2), .int (nI nx), .int (nI k2), va_rf bo2, .ref pk]))] ++ (ringW dA e0 (ra, lm, lx) Rg ++ (O ++ (F ++ (E ++ E1)))))) rfl rfl (⟨⟨hgd, hgb, hsr2, hgc.1, hgc.2⟩, hft, fun x9 hx9 => List.mem_append_right _ (List.mem_append_right _ (List.mem_append_right _ (memOE hx9))), hk0⟩) rfl (by omega) (by omega) dX1_readKeys_128
            · obtain ⟨ci, ca, cj⟩ := c8
              obtain ⟨k, hik, hko, hlt9⟩ := hcur
              dsimp only at hik hlt9
              rw [hko] at hl
              have hl : lv_has ls 11 [(0, .ref me), (1, .ref ra), (2, .ref ro), (3, .ref o1), (4, .ref k.1), (5, va_rf lo), (6, .int (nI many))] := hl
              have hkS := hRg1.2 k (List.mem_of_getElem? hik)
              have hun := pkN_un (m := many) (bd := bd) (a := ca) (j := cj) hkp hk56 hik
              refine lv_aload_n hx hb dX1_readKeys_33 rfl (lv_at hl 3 rfl) ?_
              refine call_VR (As := []) (rest := []) (n := 0) C h (c14_isPassed l D dA B Z hZ ([(ho, .inr (2, [.ref st, .ref fi, .ref bl, .long u.1, .ref wo])), (st, war dA 5 u.2.1), (wo, war dA 80 u.2.2.1), (bl, bar dA 64 u.2.2.2.2), (dg, bar dA 32 gd), (pk, .inr (1, [.ref b2, .int (nI bd.length)])), (b2, bar dA (gro cap bd.length) g2)] ++ (ringW dA e0 (ra, lm, lx) Rg ++ (O ++ (F ++ (E ++ E1))))) o1 rb pk lw.length n2 nx k2 bo2 (by omega)) (lw_V q1084 q1085 q1086 q162 q1087) (by decide +kernel) (o_recv C h (RC := RX14) (T := TX14) (N := 7) (List.mem_of_getElem? (i := 0) rfl) rfl) (by decide) (by decide) rfl hl rfl (Nat.le_of_ble_eq_true rfl) dX1_readKeys_34 (by omega) (fun _ H locs _ h => ?_)
              have h : Wd D B s ([(o1, .inr (11, [.ref rb, .int (nI lw.length), .int (nI n2), .int (nI nx), .int (nI k2), va_rf bo2, .ref pk])), (ho, .inr (2, [.ref st, .ref fi, .ref bl, .long u.1, .ref wo])), (st, war dA 5 u.2.1), (wo, war dA 80 u.2.2.1), (bl, bar dA 64 u.2.2.2.2), (dg, bar dA 32 gd), (pk, .inr (1, [.ref b2, .int (nI bd.length)])), (b2, bar dA (gro cap bd.length) g2)] ++ (ringW dA e0 (ra, lm, lx) Rg ++ (O ++ (F ++ (E ++ E1))))) H locs := h
              have h : Wd D B s ([(o1, .inr (11, [.ref rb, .int (nI lw.length), .int (nI n2), .int (nI nx), .int (nI k2), va_rf bo2, .ref pk])), (ho, .inr (2, [.ref st, .ref fi, .ref bl, .long u.1, .ref wo])), (st, war dA 5 u.2.1), (wo, war dA 80 u.2.2.1), (bl, bar dA 64 u.2.2.2.2), (dg, bar dA 32 gd), (pk, .inr (1, [.ref b2, .int (nI bd.length)])), (b2, bar dA (gro cap bd.length) g2)] ++ (ringW dA e0 (ra, lm, lx) Rg ++ (O ++ (F ++ (E ++ E1))))) H locs := h.permL (perm_add (fun g f p0 p1 p2 => by (try simp only [p0, p1, p2]) <;> omega))
              refine z_if_eq (tgt := 43) hx hb dX1_readKeys_37 (by decide) (fun c37 => ?_) (fun c37 => by exfalso; exact hkp (of_decide_eq_true c37))
              refine lv_aload_n hx hb dX1_readKeys_43 rfl (lv_at hl 3 rfl) ?_
              refine o_get C h (RC := RX14) (T := TX14) (N := 7) (List.mem_of_getElem? (i := 0) rfl) rfl in_X14 4 (by decide) q1031 rfl (v := .int (nI k2)) rfl dX1_readKeys_44 ?_
              refine lv_bipush (v := nI 6) hx hb dX1_readKeys_47 (by decide) ?_
              refine n_icmp_eq (tgt := 60) hx hb (by omega) (by omega) dX1_readKeys_49 (by decide) (fun c49 => by exfalso; omega) (fun c49 => ?_)
              refine lv_aload_n hx hb dX1_readKeys_52 rfl (lv_at hl 3 rfl) ?_
              refine o_get C h (RC := RX14) (T := TX14) (N := 7) (List.mem_of_getElem? (i := 0) rfl) rfl in_X14 4 (by decide) q1031 rfl (v := .int (nI k2)) rfl dX1_readKeys_53 ?_
              refine lv_iconst (v := nI 5) hx hb dX1_readKeys_56 (by decide) ?_
              refine n_icmp_ne (tgt := 64) hx hb (by omega) (by omega) dX1_readKeys_57 (by decide) (fun c57 => ?_) (fun c57 => by exfalso; omega)
              refine lv_iconst (v := nI 0) hx hb dX1_readKeys_64 (by decide) ?_
              refine lv_istore (lv' := [(7, .int (nI 0)), (0, .ref me), (1, .ref ra), (2, .ref ro), (3, .ref o1), (4, .ref k.1), (5, va_rf lo), (6, .int (nI many))]) hx hb dX1_readKeys_65 hl (by decide) rfl (fun ls hl => ?_)
              refine lv_aload_n hx hb dX1_readKeys_67 rfl (lv_at hl 4 rfl) ?_
              refine o_get C h (RC := RX14) (T := TX14) (N := 7) (List.mem_of_getElem? (i := 0) rfl) rfl in_X14 4 (by decide) q1031 rfl (v := .int (nI k2)) rfl dX1_readKeys_68 ?_
              refine lv_bipush (v := nI 14) hx hb dX1_readKeys_71 (by decide) ?_
              refine n_icmp_eq (tgt := 85) hx hb (by omega) (by omega) dX1_readKeys_73 (by decide) (fun c73 => by exfalso; omega) (fun c73 => ?_)
              refine lv_aload_n hx hb dX1_readKeys_76 rfl (lv_at hl 4 rfl) ?_
              refine o_get C h (RC := RX14) (T := TX14) (N := 7) (List.mem_of_getElem? (i := 0) rfl) rfl in_X14 4 (by decide) q1031 rfl (v := .int (nI k2)) rfl dX1_readKeys_77 ?_
              refine lv_bipush (v := nI 7) hx hb dX1_readKeys_80 (by decide) ?_
              refine n_icmp_ne (tgt := 89) hx hb (by omega) (by omega) dX1_readKeys_82 (by decide) (fun c82 => ?_) (fun c82 => by exfalso; omega)
              refine lv_iconst (v := nI 0) hx hb dX1_readKeys_89 (by decide) ?_
              refine lv_istore (lv' := [(8, .int (nI 0)), (7, .int (nI 0)), (0, .ref me), (1, .ref ra), (2, .ref ro), (3, .ref o1), (4, .ref k.1), (5, va_rf lo), (6, .int (nI many))]) hx hb dX1_readKeys_90 hl (by decide) rfl (fun ls hl => ?_)
              refine lv_iload hx hb dX1_readKeys_92 (lv_at hl 1 rfl) ?_
              refine n_if_ne (tgt := 129) hx hb (by omega) dX1_readKeys_94 (by decide) (fun c94 => by exfalso; omega) (fun c94 => ?_)
              refine lv_aload hx hb dX1_readKeys_97 (lv_at hl 6 rfl) ?_
              refine lv_ifnull hx hb dX1_readKeys_99 ?_
              refine lv_iload hx hb dX1_readKeys_102 (lv_at hl 0 rfl) ?_
              refine n_if_ne (tgt := 129) hx hb (by omega) dX1_readKeys_104 (by decide) (fun c104 => by exfalso; omega) (fun c104 => ?_)
              refine lv_aload_n hx hb dX1_readKeys_107 rfl (lv_at hl 5 rfl) ?_
              refine o_get C h (RC := RX14) (T := TX14) (N := 7) (List.mem_of_getElem? (i := 0) rfl) rfl in_X14 4 (by decide) q1031 rfl (v := .int (nI k2)) rfl dX1_readKeys_108 ?_
              refine lv_iconst (v := nI 2) hx hb dX1_readKeys_111 (by decide) ?_
              refine n_icmp_eq (tgt := 129) hx hb (by omega) (by omega) dX1_readKeys_112 (by decide) (fun c112 => by exfalso; omega) (fun c112 => ?_)
              refine lv_aload_n hx hb dX1_readKeys_115 rfl (lv_at hl 5 rfl) ?_
              refine o_get C h (RC := RX14) (T := TX14) (N := 7) (List.mem_of_getElem? (i := 0) rfl) rfl in_X14 4 (by decide) q1031 rfl (v := .int (nI k2)) rfl dX1_readKeys_116 ?_
              refine lv_bipush (v := nI 13) hx hb dX1_readKeys_119 (by decide) ?_
              refine n_icmp_eq (tgt := 129) hx hb (by omega) (by omega) dX1_readKeys_121 (by decide) (fun c121 => by exfalso; omega) (fun c121 => ?_)
              refine lv_aload_n hx hb dX1_readKeys_124 rfl (lv_at hl 5 rfl) ?_
              refine call_VR (As := []) (rest := []) (n := 0) C h (c14_fault l D dA B Z hZ _ o1 rb lw.length n2 nx k2 pk bo2 hlt hzx (List.mem_of_getElem? (i := 0) rfl)) (lw_V q1088 q1064 q1065 q162 q1066) (by decide +kernel) (o_recv C h (RC := RX14) (T := TX14) (N := 7) (List.mem_of_getElem? (i := 0) rfl) rfl) (by decide) (by decide) rfl hl rfl (Nat.le_of_ble_eq_true rfl) dX1_readKeys_125 (by omega) (fun u8 H locs _ h => ?_)
              obtain ⟨q9, x9⟩ := u8
              have h : Wd D B s ([(q9, .inr (10, fts x9 (-1 - nI nx))), (o1, .inr (11, [.ref rb, .int (nI lw.length), .int (nI n2), .int (nI nx), .int (nI k2), va_rf bo2, .ref pk])), (ho, .inr (2, [.ref st, .ref fi, .ref bl, .long u.1, .ref wo])), (st, war dA 5 u.2.1), (wo, war dA 80 u.2.2.1), (bl, bar dA 64 u.2.2.2.2), (dg, bar dA 32 gd), (pk, .inr (1, [.ref b2, .int (nI bd.length)])), (b2, bar dA (gro cap bd.length) g2)] ++ (ringW dA e0 (ra, lm, lx) Rg ++ (O ++ (F ++ (E ++ E1))))) H locs := h
              subst hQ
              have hkn9 := hkn.trans (keysN_bad hnl hfu0 hpk9 (by rw [hun]; unfold undN; rw [if_neg (by omega), if_neg (by omega), if_neg (by omega)]))
              have h : Wd D B s ([(ho, .inr (2, [.ref st, .ref fi, .ref bl, .long u.1, .ref wo])), (st, war dA 5 u.2.1), (wo, war dA 80 u.2.2.1), (bl, bar dA 64 u.2.2.2.2)] ++ ([(dg, bar dA 32 gd), (pk, .inr (1, [.ref b2, .int (nI bd.length)])), (b2, bar dA (gro cap bd.length) g2)] ++ ([(q9, .inr (10, fts x9 (-1 - nI nx)))] ++ ([(o1, .inr (11, [.ref rb, .int (nI lw.length), .int (nI n2), .int (nI nx), .int (nI k2), va_rf bo2, .ref pk]))] ++ (ringW dA e0 (ra, lm, lx) Rg ++ (O ++ (F ++ (E ++ E1)))))))) H locs := h.permL (perm_add (fun g f p0 p1 p2 => by (try simp only [p0, p1, p2]) <;> omega))
              have h : Wd D B s (h4C dA ho st fi bl wo u ++ ([(dg, bar dA 32 gd), (pk, .inr (1, [.ref b2, .int (nI bd.length)])), (b2, bar dA (gro cap bd.length) g2)] ++ ([(q9, .inr (10, fts x9 (-1 - nI nx)))] ++ ([(o1, .inr (11, [.ref rb, .int (nI lw.length), .int (nI n2), .int (nI nx), .int (nI k2), va_rf bo2, .ref pk]))] ++ (ringW dA e0 (ra, lm, lx) Rg ++ (O ++ (F ++ (E ++ E1)))))))) H locs := h
              have hft : FaultIn ([(q9, .inr (10, fts x9 (-1 - nI nx)))] ++ ([(o1, .inr (11, [.ref rb, .int (nI lw.length), .int (nI n2), .int (nI nx), .int (nI k2), va_rf bo2, .ref pk]))] ++ (ringW dA e0 (ra, lm, lx) Rg ++ (O ++ (F ++ (E ++ E1)))))) q9 (tellN kr lw.length) := by
                unfold tellN
                rw [hkn9, if_neg (m1_ne (by omega))]
                exact ⟨x9, List.mem_append_left _ List.mem_cons_self⟩
              have hk0 : kr.1 = 0 → kr.2.2.2 = 0 := fun q9 => by rw [hkn9] at q9; exact absurd q9 (m1_ne (by omega))
              exact x_athrow C hex hlocks h (List.mem_append_right _ (List.mem_append_right _ (List.mem_append_left _ List.mem_cons_self))) rfl (q9, u, gd, (b2, gro cap bd.length, g2, bd), [(q9, .inr (10, fts x9 (-1 - nI nx)))] ++ ([(o1, .inr (11, [.ref rb, .int (nI lw.length), .int (nI n2), .int (nI nx), .int (nI k2), va_rf bo2, .ref pk]))] ++ (ringW dA e0 (ra, lm, lx) Rg ++ (O ++ (F ++ (E ++ E1)))))) rfl rfl (⟨⟨hgd, hgb, hsr2, hgc.1, hgc.2⟩, hft, fun x9 hx9 => List.mem_append_right _ (List.mem_append_right _ (List.mem_append_right _ (memOE hx9))), hk0⟩) rfl (by omega) (by omega) dX1_readKeys_128
  exact loop _ 0 0 0 none b0 cap0 g0 lr0 u9 gd0 lm0 lx0 R0 cx0 none none none 0 (lw.length + 1) [] _ _ (by omega) hrd3 hrd4 hrd5 hrd2 hrd1 (by rw [List.append_nil]; exact hRg0) (fun _ _ _ => rfl) (⟨rfl, rfl⟩) hkr (by omega) (by omega) (by omega) (by omega) (Nat.lt_succ_self _) _ _ h _ (lv_sub hl [4, 5, 6, 3, 2, 1, 0] rfl)
