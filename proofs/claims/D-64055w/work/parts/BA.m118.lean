set_option maxRecDepth 100000

theorem cQ_judge (l : Launch) (D : va_G) (dA : Nat → ClassId) (B : Nat) (Z : State → Prop) (hZ : Stab B Z) (G : va_W) (A : Nat → Nat) (O : va_W) (sz dc rg f1 f2 : Nat) (q : QS) (cx : CX) (e0 : Nat) (tt : KY × Option Nat) (Ry : List KY) (y : Int32) (k9 se : Nat) (sb txt : List Nat) (t : Nat) (hzq : ZQ B f1 f2 Z) (hQF : QF dA A sz dc rg G) (hqo : QOk q) (hC : CaseIn dA (O ++ G) k9 se sb txt) (hv : sVain sb = false) (hTI : ThIs Ry tt y) (hkt : KyT dA e0 cx G tt.1) (ht : t < 4294967296) :
    Ct (S := QS × va_W) l D dA B Z yX1_judge cX1_judge 9 (some .int) 14 (usTs tt + 2) (uSl tt.1 + 256) [.ref (A 24), .ref k9, .ref tt.1.1, .int y, .long (lN t)] (qW dA A O q ++ G) (fun u => QOk u.1 ∧ TR dA cx G u.2) (fun _ => some (.int (jdgC tt sb txt t))) (fun u => qW dA A O u.1 ++ u.2) := by
  have hzq0 := hzq
  have hQF0 := hQF
  obtain ⟨hz1, hz2, hz3⟩ := hzq
  obtain ⟨hf1, hf2, hme⟩ := hQF
  obtain ⟨hq1, hq2, hq3⟩ := hqo
  by_cases hsh : sHash sb = 2
  · refine Ct.mapP (S := QS × va_W) (Ct.perm (c1_judge4 l D dA B Z hZ (h5C dA (A 5) (A 6) (A 7) (A 8) (A 9) (A 10) q.2.1 ++ O) G (A 0) (A 1) (A 2) (A 3) (A 4) (A 24) (A 23) dc (A 17) rg (A 5) (A 11) (A 18) (A 19) (A 20) (A 21) (A 22) sz (A 12) (A 13) (A 14) (A 15) (A 16) f1 f2 q.1 q.2.2.1 q.2.2.2 cx e0 tt Ry y k9 se sb txt t (QS × va_W) (fun v => QOk v.1 ∧ TR dA cx G v.2) (fun v => h4C dA (A 0) (A 1) (A 2) (A 3) (A 4) v.1.1 ++ ([(A 11, bar dA 32 v.1.2.2.1)] ++ (pwC dA (A 12) (A 13) (A 14) (A 15) (A 16) v.1.2.2.2 ++ ((h5C dA (A 5) (A 6) (A 7) (A 8) (A 9) (A 10) v.1.2.1 ++ O) ++ v.2)))) hf1 hz2 hme (hC.sub (fun z hz => (List.mem_append.mp hz).elim (fun w9 => List.mem_append_left _ (List.mem_append_right _ w9)) (fun w9 => List.mem_append_right _ w9))) hv hTI hkt.1 hkt.2.1 hsh ht hq1 hq3 ?_ ?_ ?_) ?_) (fun u hu => ⟨u, hu, rfl, ?_⟩)
    · intro u gd ps G9 g1 g2 g3
      exact ⟨((u, q.2.1, gd, ps), G9), ⟨⟨g2, hq2, g1⟩, g3⟩, rfl⟩
    · intro u gd ps G9 g1 g2 g3
      refine Ct.mapP (S := QS × va_W) (Ct.perm (cQ_usableK l D dA B Z hZ G9 A O sz dc rg f1 f2 (u, q.2.1, gd, ps) cx e0 tt.1 t hzq0 (g3.qf hQF0) ⟨g2, hq2, g1⟩ (g3.ky hkt) ht) ?_) (fun v hv9 => ⟨v, ⟨hv9.1, g3.trans hv9.2⟩, rfl, ?_⟩)
      · (try dsimp only); unfold qW; exact (perm_add (fun g f p0 p1 p2 => by (try simp only [p0, p1, p2]) <;> omega))
      · (try dsimp only); unfold qW; exact (perm_add (fun g f p0 p1 p2 => by (try simp only [p0, p1, p2]) <;> omega))
    · intro x hx u gd ps G9 g1 g2 g3
      refine Ct.mapP (S := QS × va_W) (Ct.perm (cQ_usableP l D dA B Z hZ G9 A O sz dc rg f1 f2 (u, q.2.1, gd, ps) cx e0 tt.1 x t hzq0 (g3.qf hQF0) ⟨g2, hq2, g1⟩ (g3.ky hkt) hx ht) ?_) (fun v hv9 => ⟨v, ⟨hv9.1, g3.trans hv9.2⟩, rfl, ?_⟩)
      · (try dsimp only); unfold qW; exact (perm_add (fun g f p0 p1 p2 => by (try simp only [p0, p1, p2]) <;> omega))
      · (try dsimp only); unfold qW; exact (perm_add (fun g f p0 p1 p2 => by (try simp only [p0, p1, p2]) <;> omega))
    · (try dsimp only); unfold qW; exact (perm_add (fun g f p0 p1 p2 => by (try simp only [p0, p1, p2]) <;> omega))
    · (try dsimp only); unfold qW; exact (perm_add (fun g f p0 p1 p2 => by (try simp only [p0, p1, p2]) <;> omega))
  · refine Ct.mapP (S := QS × va_W) (Ct.perm (c1_judge5 l D dA B Z hZ (h4C dA (A 0) (A 1) (A 2) (A 3) (A 4) q.1 ++ O) G (A 5) (A 6) (A 7) (A 8) (A 9) (A 10) (A 24) (A 23) dc (A 17) rg (A 0) (A 11) (A 18) (A 19) (A 20) (A 21) (A 22) sz (A 12) (A 13) (A 14) (A 15) (A 16) f1 f2 q.2.1 q.2.2.1 q.2.2.2 cx e0 tt Ry y k9 se sb txt t (QS × va_W) (fun v => QOk v.1 ∧ TR dA cx G v.2) (fun v => h5C dA (A 5) (A 6) (A 7) (A 8) (A 9) (A 10) v.1.2.1 ++ ([(A 11, bar dA 32 v.1.2.2.1)] ++ (pwC dA (A 12) (A 13) (A 14) (A 15) (A 16) v.1.2.2.2 ++ ((h4C dA (A 0) (A 1) (A 2) (A 3) (A 4) v.1.1 ++ O) ++ v.2)))) hz1 hf2 hz2 hme (hC.sub (fun z hz => (List.mem_append.mp hz).elim (fun w9 => List.mem_append_left _ (List.mem_append_right _ w9)) (fun w9 => List.mem_append_right _ w9))) hv hTI hkt.1 hkt.2.1 hsh ht hq2 hq3 ?_ ?_ ?_) ?_) (fun u hu => ⟨u, hu, rfl, ?_⟩)
    · intro u gd ps G9 g1 g2 g3
      exact ⟨((q.1, u, gd, ps), G9), ⟨⟨hq1, g2, g1⟩, g3⟩, rfl⟩
    · intro u gd ps G9 g1 g2 g3
      refine Ct.mapP (S := QS × va_W) (Ct.perm (cQ_usableK l D dA B Z hZ G9 A O sz dc rg f1 f2 (q.1, u, gd, ps) cx e0 tt.1 t hzq0 (g3.qf hQF0) ⟨hq1, g2, g1⟩ (g3.ky hkt) ht) ?_) (fun v hv9 => ⟨v, ⟨hv9.1, g3.trans hv9.2⟩, rfl, ?_⟩)
      · (try dsimp only); unfold qW; exact (perm_add (fun g f p0 p1 p2 => by (try simp only [p0, p1, p2]) <;> omega))
      · (try dsimp only); unfold qW; exact (perm_add (fun g f p0 p1 p2 => by (try simp only [p0, p1, p2]) <;> omega))
    · intro x hx u gd ps G9 g1 g2 g3
      refine Ct.mapP (S := QS × va_W) (Ct.perm (cQ_usableP l D dA B Z hZ G9 A O sz dc rg f1 f2 (q.1, u, gd, ps) cx e0 tt.1 x t hzq0 (g3.qf hQF0) ⟨hq1, g2, g1⟩ (g3.ky hkt) hx ht) ?_) (fun v hv9 => ⟨v, ⟨hv9.1, g3.trans hv9.2⟩, rfl, ?_⟩)
      · (try dsimp only); unfold qW; exact (perm_add (fun g f p0 p1 p2 => by (try simp only [p0, p1, p2]) <;> omega))
      · (try dsimp only); unfold qW; exact (perm_add (fun g f p0 p1 p2 => by (try simp only [p0, p1, p2]) <;> omega))
    · (try dsimp only); unfold qW; exact (perm_add (fun g f p0 p1 p2 => by (try simp only [p0, p1, p2]) <;> omega))
    · (try dsimp only); unfold qW; exact (perm_add (fun g f p0 p1 p2 => by (try simp only [p0, p1, p2]) <;> omega))

theorem TR.drop0 {dA : Nat → ClassId} {cx : CX} {me : Nat × va_E} {G E G5 E9 : va_W} (hn : me ∉ G) (hk : ∃ fs, me.2 = .inr (0, fs)) (h : TR dA cx ([me] ++ (G ++ E)) G5) (hp : G5.Perm ([me] ++ E9)) : TR dA cx G E9 := by
  obtain ⟨fs0, hk⟩ := hk
  have hx : ∀ z ∈ G5, z.2 ≠ me.2 → z ∈ E9 := fun z hz hne => by
    rcases List.mem_append.mp (hp.mem_iff.mp hz) with q | q
    · exact absurd (by rw [List.mem_singleton.mp q]) hne
    · exact q
  refine ⟨fun a e h1 h2 => ?_, fun y hy => ?_⟩
  · have h3 := h.1 a e (List.mem_append_right _ (List.mem_append_left _ h1)) h2
    rcases List.mem_append.mp (hp.mem_iff.mp h3) with q | q
    · exact absurd (by rw [← List.mem_singleton.mp q]; exact h1) hn
    · exact q
  · obtain ⟨t, h1, h2⟩ := hy
    obtain ⟨t', h3, h4⟩ := h.2 y ⟨t, h1.sub (fun b q hq => List.mem_append_right _ (List.mem_append_left _ hq)) (fun a fs hq => List.mem_append_right _ (List.mem_append_left _ hq)), h2⟩
    refine ⟨t', h3.sub (fun b q hq => hx _ hq (by rw [hk]; intro z; cases z)) (fun a fs hq => hx _ hq (by rw [hk]; intro z; have z2 := congrArg Prod.fst (Sum.inr.inj z); exact absurd z2 (by decide))), h4⟩
theorem qW_O {dA : Nat → ClassId} {A : Nat → Nat} {O : va_W} {q : QS} : ∀ z ∈ O, z ∈ qW dA A O q := fun z hz => List.mem_append_right _ (List.mem_append_right _ (List.mem_append_right _ (List.mem_append_right _ hz)))
section TO9
variable {p : Program} {l : Launch} {e : Env} {R : Room} {s : State} {m : MethodId} {args : Array Value} {below : List Frame} {meth : Method} {c : Code} {H : Heap} {locs : List Loc} {cells slots : Nat} {cc : ByteArray} {pc : Nat} {ls : Array Slot} {rest : List Value}
variable {SX : Type} {nL : Nat} {own : String} {D : va_G} {dA : Nat → ClassId} {B : Nat} {Z : State → Prop} {d mc ms : Nat} {ws : va_W} {px : SX → Prop} {ax : SX → Nat} {en : SX → String} {wx : SX → va_W}
theorem thr_outT {Qc : Array Value → State → Outcome → State → Prop} {q : Addr} {ce : Cell} {E : String} {hh : List (Nat × Nat × Nat × Nat)} (C : Cx p R s m args c cc nL own D dA B Z d mc ms) (hex : c.exceptionTable.toList = tableOf hh) (hno : ∀ x ∈ tableOf hh, covers x pc = false) (hlocks : meth.locks = false) (h : Wd D B s ws H locs) (u : SX) (he : E = en u) (hq : q = ax u) (hp : px u) (hw : wx u = ws) (hcell : H[q]? = some ce) (hv : ce.vm = .none) (hcl : s.vm.findClass E = some ce.cls) (hc : cells ≤ mc) (hs : slots ≤ ms) :
    vy_W p l e R s m args below meth c H locs cells slots (vy_MQ below Qc (Xg D dA B Z px ax en wx) args s mc ms (bA B)) (F0 m pc ls rest) q := by
  obtain ⟨hx, hb, hml, hown, hts, hK, hN, hz, hZ, hB, hRf, hRl, hRc, hRs⟩ := C
  exact vy_out (fun x hx => hno x (hex ▸ hx)) hlocks hcell hv hcl (fun t ht hW => ⟨⟨u, he, hq, hp, hw ▸ h.pr hK hN hz hZ hB t ht hW⟩, h.2.2.F ht⟩) h.2.2.2.2 hc hs
end TO9
def kyF (k : KY) (sb : List Nat) : Option (Option Nat) := if nameOf sb (sha1 (keyMsg k.2.1.2.1)) = true then some none else (k.2.2.2.2.2.findIdx? (fun p : PTt => nameOf sb (sha1 (keyMsg p.2.1.2.1)))).map some
def fdC (Ry : List KY) (sb : List Nat) : Option (KY × Option Nat) := Ry.findSome? (fun k => (kyF k sb).map (fun o => (k, o)))
def lokRC (Ry : List KY) (sb txt : List Nat) (t : Nat) : Int32 := if sVain sb = true ∨ ((sNote sb).2.2.2.2.1 = none ∧ (sNote sb).2.2.2.1 = none) then nI 1 else match fdC Ry sb with
  | none => nI 2
  | some tt => jdgC tt sb txt t
def lokC (Ry : List KY) (tp dcl : List Nat) (t : Nat) : Int32 := if (csS tp dcl).1 = 0 then lokRC Ry (csS tp dcl).2.1 (csS tp dcl).2.2 t else (csS tp dcl).1
theorem fdC_hit {Ry : List KY} {sb : List Nat} {k : KY} {o : Option Nat} : ∀ {i : Nat}, (∀ j x, j < i → Ry[j]? = some x → kyF x sb = none) → Ry[i]? = some k → kyF k sb = some o → fdC Ry sb = some (k, o) := by
  unfold fdC
  induction Ry with
  | nil => intro i _ h; rw [List.getElem?_nil] at h; cases h
  | cons a l ih =>
    intro i hj hi hk
    cases i with
    | zero =>
      have e : a = k := Option.some.inj hi
      rw [List.findSome?_cons, e, hk]; rfl
    | succ i =>
      rw [List.findSome?_cons, hj 0 a (Nat.succ_pos _) rfl]
      exact ih (fun j x h1 h2 => hj (j + 1) x (Nat.succ_lt_succ h1) h2) hi hk
theorem fdC_miss {Ry : List KY} {sb : List Nat} (hj : ∀ j x, j < Ry.length → Ry[j]? = some x → kyF x sb = none) : fdC Ry sb = none := by
  unfold fdC
  induction Ry with
  | nil => rfl
  | cons a l ih =>
    rw [List.findSome?_cons, hj 0 a (Nat.succ_pos _) rfl]
    exact ih (fun j x h1 h2 => hj (j + 1) x (Nat.succ_lt_succ h1) h2)
theorem kyF_n {k : KY} {sb : List Nat} (h : nameOf sb (sha1 (keyMsg k.2.1.2.1)) = false) (hp : ∀ j x, j < k.2.2.2.2.2.length → k.2.2.2.2.2[j]? = some x → nameOf sb (sha1 (keyMsg x.2.1.2.1)) = false) : kyF k sb = none := by
  unfold kyF
  rw [if_neg (by rw [h]; decide), fix_miss (f := fun p : PTt => nameOf sb (sha1 (keyMsg p.2.1.2.1))) hp]
  rfl
theorem kyF_k {k : KY} {sb : List Nat} (h : nameOf sb (sha1 (keyMsg k.2.1.2.1)) = true) : kyF k sb = some none := by unfold kyF; rw [if_pos h]
theorem kyF_p {k : KY} {sb : List Nat} {j : Nat} {x : PTt} (h : nameOf sb (sha1 (keyMsg k.2.1.2.1)) = false) (hp : ∀ i x, i < j → k.2.2.2.2.2[i]? = some x → nameOf sb (sha1 (keyMsg x.2.1.2.1)) = false) (hj : k.2.2.2.2.2[j]? = some x) (hx : nameOf sb (sha1 (keyMsg x.2.1.2.1)) = true) : kyF k sb = some (some j) := by
  unfold kyF
  rw [if_neg (by rw [h]; decide), fix_hit (f := fun p : PTt => nameOf sb (sha1 (keyMsg p.2.1.2.1))) hp hj hx]
  rfl

set_option maxHeartbeats 4000000 in
set_option maxRecDepth 100000 in
theorem c1_look (l : Launch) (D : va_G) (dA : Nat → ClassId) (B : Nat) (Z : State → Prop) (hZ : Stab B Z) (G : va_W) (A : Nat → Nat) (O : va_W) (dc f1 f2 : Nat) (q : QS) (cx : CX) (e0 : Nat) (rl : LD) (Ry : List KY) (gB : Nat → Nat) (tp dcl : List Nat) (kb kc : Nat) (kg : Nat → Nat) (kl : List Nat) (qb qc : Nat) (qg : Nat → Nat) (ql : List Nat) (pb pc9 : Nat) (pg : Nat → Nat) (pl9 : List Nat) (tb tc : Nat) (tg : Nat → Nat) (tl : List Nat) (v : Int64) (hlt : l.stackTraces = false) (hzx : ZX B Z) (hzs : ZS dA B Z) (hzq : ZQ B f1 f2 Z) (hf4 : (A 2, war dA 5 (t5 in1)) ∈ G) (hf5 : (A 7, war dA 8 in2) ∈ G) (hqo : QOk q) (hbs : (A 23, bar dA 4096 gB) ∈ O) (hsB : SBis gB 4096 tp) (hbt : byt tp) (hdc : (dc, bal dA dcl) ∈ G) (hdb : byt dcl) (hdl : dcl.length ≤ 4096) (hRw0 : ∀ z ∈ ringW dA e0 rl Ry, z ∈ G) (hRS : RgS dA cx G rl Ry) (hkb : RowOk (kb, kc, kg, kl)) (hqb : RowOk (qb, qc, qg, ql)) (hpb : RowOk (pb, pc9, pg, pl9)) (htb : RowOk (tb, tc, tg, tl)) :
    CtH (S := QS × RowS × RowS × RowS × RowS × va_W) (SX := Nat) l D dA B Z yX1_look cX1_look 8 (some .int) [((7 : Nat), (16 : Nat), (19 : Nat), (370 : Nat))] 16 (sumL uC Ry + rC kc tp.length + rC qc tp.length + rC pc9 tp.length + rC tc tp.length + tp.length / 2 + 120) (sumL uSl Ry + rS kc tp.length + rS qc tp.length + rS pc9 tp.length + rS tc tp.length + 9 * tp.length + 4100) [.ref (A 24), .long v] (qW dA A O q ++ ([((A 24), .inr (0, [.ref (A 23), .int (nI tp.length), .ref dc, .ref (A 17), .ref rl.1, .ref (A 0), .ref (A 5), .ref (A 11), .ref (A 12), .ref (A 18), .ref (A 19), .ref (A 20), .ref (A 21), .ref (A 22)]))] ++ ([((A 18), .inr (1, [.ref kb, .int (nI kl.length)])), (kb, bar dA kc kg), ((A 19), .inr (1, [.ref qb, .int (nI ql.length)])), (qb, bar dA qc qg), ((A 20), .inr (1, [.ref pb, .int (nI pl9.length)])), (pb, bar dA pc9 pg), ((A 21), .inr (1, [.ref tb, .int (nI tl.length)])), (tb, bar dA tc tg)] ++ G))) (fun u => isTm v = true ∧ QOk u.1 ∧ RowOk u.2.1 ∧ RowOk u.2.2.1 ∧ RowOk u.2.2.2.1 ∧ RowOk u.2.2.2.2.1 ∧ TR dA cx G u.2.2.2.2.2) (fun _ => some (.int (lokC Ry tp dcl (tmN v)))) (fun u => qW dA A O u.1 ++ ([((A 24), .inr (0, [.ref (A 23), .int (nI 0), .ref dc, .ref (A 17), .ref rl.1, .ref (A 0), .ref (A 5), .ref (A 11), .ref (A 12), .ref (A 18), .ref (A 19), .ref (A 20), .ref (A 21), .ref (A 22)]))] ++ ([((A 18), .inr (1, [.ref u.2.1.1, .int (nI u.2.1.2.2.2.length)])), (u.2.1.1, bar dA u.2.1.2.1 u.2.1.2.2.1), ((A 19), .inr (1, [.ref u.2.2.1.1, .int (nI u.2.2.1.2.2.2.length)])), (u.2.2.1.1, bar dA u.2.2.1.2.1 u.2.2.1.2.2.1), ((A 20), .inr (1, [.ref u.2.2.2.1.1, .int (nI u.2.2.2.1.2.2.2.length)])), (u.2.2.2.1.1, bar dA u.2.2.2.1.2.1 u.2.2.2.1.2.2.1), ((A 21), .inr (1, [.ref u.2.2.2.2.1.1, .int (nI u.2.2.2.2.1.2.2.2.length)])), (u.2.2.2.2.1.1, bar dA u.2.2.2.2.1.2.1 u.2.2.2.2.1.2.2.1)] ++ u.2.2.2.2.2))) (fun _ => isTm v = false) (fun u => u) (fun _ => "java/lang/IllegalArgumentException") (fun _ => qW dA A O q ++ ([((A 24), .inr (0, [.ref (A 23), .int (nI tp.length), .ref dc, .ref (A 17), .ref rl.1, .ref (A 0), .ref (A 5), .ref (A 11), .ref (A 12), .ref (A 18), .ref (A 19), .ref (A 20), .ref (A 21), .ref (A 22)]))] ++ ([((A 18), .inr (1, [.ref kb, .int (nI kl.length)])), (kb, bar dA kc kg), ((A 19), .inr (1, [.ref qb, .int (nI ql.length)])), (qb, bar dA qc qg), ((A 20), .inr (1, [.ref pb, .int (nI pl9.length)])), (pb, bar dA pc9 pg), ((A 21), .inr (1, [.ref tb, .int (nI tl.length)])), (tb, bar dA tc tg)] ++ G))) := by
  refine CtH.mk2 (by decide) (Nat.le_of_ble_eq_true rfl) hZ ?_
  intro p e R s m args below meth c ls Q C hr hlocks hin hex hQ hl h
  have C0 := C
  obtain ⟨hx, hb, hml, hown, hts, -⟩ := C0
  have hl : lv_has ls 8 [(0, .ref (A 24)), (1, .long v)] := hl
  have hkb0 := hkb
  obtain ⟨hkb1, hkb2, hkb3⟩ := hkb
  dsimp only at hkb1 hkb2 hkb3
  have hqb0 := hqb
  obtain ⟨hqb1, hqb2, hqb3⟩ := hqb
  dsimp only at hqb1 hqb2 hqb3
  have hpb0 := hpb
  obtain ⟨hpb1, hpb2, hpb3⟩ := hpb
  dsimp only at hpb1 hpb2 hpb3
  have htb0 := htb
  obtain ⟨htb1, htb2, htb3⟩ := htb
  dsimp only at htb1 htb2 htb3
  have hl4 : tp.length ≤ 4096 := hsB.1
  have hKy : ∀ k ∈ Ry, KyIn dA G k := fun k hk => (hRS.2 k hk).1
  have hR16 := hRS.1.2.2
  have hgk := gro_b (cap := kc) (m := tp.length) (by omega)
  have hgq := gro_b (cap := qc) (m := tp.length) (by omega)
  have hgp := gro_b (cap := pc9) (m := tp.length) (by omega)
  have hgt := gro_b (cap := tc) (m := tp.length) (by omega)
  have h : Wd D B s ([((A 24), .inr (0, [.ref (A 23), .int (nI tp.length), .ref dc, .ref (A 17), .ref rl.1, .ref (A 0), .ref (A 5), .ref (A 11), .ref (A 12), .ref (A 18), .ref (A 19), .ref (A 20), .ref (A 21), .ref (A 22)])), ((A 18), .inr (1, [.ref kb, .int (nI kl.length)])), (kb, bar dA kc kg), ((A 19), .inr (1, [.ref qb, .int (nI ql.length)])), (qb, bar dA qc qg), ((A 20), .inr (1, [.ref pb, .int (nI pl9.length)])), (pb, bar dA pc9 pg), ((A 21), .inr (1, [.ref tb, .int (nI tl.length)])), (tb, bar dA tc tg)] ++ (qW dA A O q ++ G)) s.heap [] := h.permL (perm_add (fun g f p0 p1 p2 => by (try simp only [p0, p1, p2]) <;> omega))
  refine lv_lload_n hx hb dX1_look_0 rfl (lv_at hl 1 rfl) ?_
  refine call_S (As := [.long v]) (rest := []) (n := 1) C h (c1_isTime l D dA B Z hZ _ v) (lw_S q1444 q1445 q129 q1446) (by decide +kernel) (by decide) (by decide) rfl hl rfl (Nat.le_of_ble_eq_true rfl) dX1_look_1 (by omega) (fun _ H locs _ h => ?_)
  refine call_SX (As := [.int (bZ (isTm v))]) (rest := []) (n := 1) C h (c1_want l D dA B Z hZ ([((A 24), .inr (0, [.ref (A 23), .int (nI tp.length), .ref dc, .ref (A 17), .ref rl.1, .ref (A 0), .ref (A 5), .ref (A 11), .ref (A 12), .ref (A 18), .ref (A 19), .ref (A 20), .ref (A 21), .ref (A 22)])), ((A 18), .inr (1, [.ref kb, .int (nI kl.length)])), (kb, bar dA kc kg), ((A 19), .inr (1, [.ref qb, .int (nI ql.length)])), (qb, bar dA qc qg), ((A 20), .inr (1, [.ref pb, .int (nI pl9.length)])), (pb, bar dA pc9 pg), ((A 21), .inr (1, [.ref tb, .int (nI tl.length)])), (tb, bar dA tc tg)] ++ (qW dA A O q ++ G)) (isTm v) hlt hzx) (lw_S q1448 q1449 q129 q1450) (by decide +kernel) (by decide) (by decide) rfl hl rfl (Nat.le_of_ble_eq_true rfl) dX1_look_4 (by omega) (fun ux ce9 H locs hux h hce9 hcv9 hcl9 => ?_) (fun _ H locs hb9 h => ?_)
  · have h : Wd D B s (qW dA A O q ++ ([((A 24), .inr (0, [.ref (A 23), .int (nI tp.length), .ref dc, .ref (A 17), .ref rl.1, .ref (A 0), .ref (A 5), .ref (A 11), .ref (A 12), .ref (A 18), .ref (A 19), .ref (A 20), .ref (A 21), .ref (A 22)]))] ++ ([((A 18), .inr (1, [.ref kb, .int (nI kl.length)])), (kb, bar dA kc kg), ((A 19), .inr (1, [.ref qb, .int (nI ql.length)])), (qb, bar dA qc qg), ((A 20), .inr (1, [.ref pb, .int (nI pl9.length)])), (pb, bar dA pc9 pg), ((A 21), .inr (1, [.ref tb, .int (nI tl.length)])), (tb, bar dA tc tg)] ++ G))) H locs := h.permL (perm_add (fun g f p0 p1 p2 => by (try simp only [p0, p1, p2]) <;> omega))
    subst hQ
    exact thr_outT C hex (by intro x hx; have hx := List.mem_singleton.mp hx; subst hx; decide) hlocks h ux rfl rfl hux rfl hce9 hcv9 hcl9 (by omega) (by omega)
  obtain ⟨t, ht, hvt⟩ := isTm_t hb9
  have htm : tmN v = t := by rw [hvt]; exact tmN_l ht
  rw [hvt] at hl
  have hl : lv_has ls 8 [(0, .ref (A 24)), (1, .long (lN t))] := hl
  refine lv_aload_n hx hb dX1_look_7 rfl (lv_at hl 0 rfl) ?_
  refine lv_aload_n hx hb dX1_look_8 rfl (lv_at hl 0 rfl) ?_
  refine call_VR (As := []) (rest := [.ref (A 24)]) (n := 0) C h (c1_taken l D dA B Z hZ ([((A 19), .inr (1, [.ref qb, .int (nI ql.length)])), (qb, bar dA qc qg), ((A 20), .inr (1, [.ref pb, .int (nI pl9.length)])), (pb, bar dA pc9 pg), ((A 21), .inr (1, [.ref tb, .int (nI tl.length)])), (tb, bar dA tc tg)] ++ (qW dA A O q ++ G)) (A 24) (A 23) dc (A 17) rl.1 (A 0) (A 5) (A 11) (A 18) (A 19) (A 20) (A 21) (A 22) (A 12) kb kc kg gB kl tp (List.mem_append_right _ (List.mem_append_left _ (qW_O _ hbs))) hsB hbt hkb2 hkb3) (lw_V q549 q551 qs3 q129 q552) (by decide +kernel) (o_recv C h (RC := RX1) (T := TX1) (N := 14) (List.mem_of_getElem? (i := 0) rfl) rfl) (by decide) (by decide) rfl hl rfl (Nat.le_of_ble_eq_true rfl) dX1_look_9 (by omega) (fun u8 H locs hu8 h => ?_)
  obtain ⟨kb3, kg3, E3⟩ := u8
  dsimp only at hu8 h
  have hu83 := hu8
  have h : Wd D B s ([((A 24), .inr (0, [.ref (A 23), .int (nI 0), .ref dc, .ref (A 17), .ref rl.1, .ref (A 0), .ref (A 5), .ref (A 11), .ref (A 12), .ref (A 18), .ref (A 19), .ref (A 20), .ref (A 21), .ref (A 22)])), ((A 18), .inr (1, [.ref kb3, .int (nI tp.length)])), (kb3, bar dA (gro kc tp.length) kg3), ((A 19), .inr (1, [.ref qb, .int (nI ql.length)])), (qb, bar dA qc qg), ((A 20), .inr (1, [.ref pb, .int (nI pl9.length)])), (pb, bar dA pc9 pg), ((A 21), .inr (1, [.ref tb, .int (nI tl.length)])), (tb, bar dA tc tg)] ++ ((qW dA A O q ++ G) ++ E3)) H locs := h.permL (perm_add (fun g f p0 p1 p2 => by (try simp only [p0, p1, p2]) <;> omega))
  have h : Wd D B s ([((A 21), .inr (1, [.ref tb, .int (nI tl.length)])), (tb, bar dA tc tg), ((A 19), .inr (1, [.ref qb, .int (nI ql.length)])), (qb, bar dA qc qg), ((A 20), .inr (1, [.ref pb, .int (nI pl9.length)])), (pb, bar dA pc9 pg), ((A 24), .inr (0, [.ref (A 23), .int (nI 0), .ref dc, .ref (A 17), .ref rl.1, .ref (A 0), .ref (A 5), .ref (A 11), .ref (A 12), .ref (A 18), .ref (A 19), .ref (A 20), .ref (A 21), .ref (A 22)])), ((A 18), .inr (1, [.ref kb3, .int (nI tp.length)])), (kb3, bar dA (gro kc tp.length) kg3)] ++ ((qW dA A O q ++ G) ++ E3)) H locs := h.perm [7, 8, 3, 4, 5, 6, 0, 1, 2] rfl rfl
  refine call_VX (As := [.ref (A 18)]) (rest := []) (n := 1) C h (c1_readCase l D dA B Z hZ ([((A 24), .inr (0, [.ref (A 23), .int (nI 0), .ref dc, .ref (A 17), .ref rl.1, .ref (A 0), .ref (A 5), .ref (A 11), .ref (A 12), .ref (A 18), .ref (A 19), .ref (A 20), .ref (A 21), .ref (A 22)])), ((A 18), .inr (1, [.ref kb3, .int (nI tp.length)])), (kb3, bar dA (gro kc tp.length) kg3)] ++ ((qW dA A O q ++ G) ++ E3)) (A 24) (A 23) dc (A 17) rl.1 (A 0) (A 5) (A 11) (A 12) (A 18) (A 19) (A 20) (A 21) (A 22) 0 (A 18) kb3 (gro kc tp.length) kg3 tp dcl pb pc9 pg pl9 tb tc tg tl qb qc qg ql hlt hzx hzs (List.mem_append_left _ (List.mem_of_getElem? (i := 0) rfl)) (List.mem_append_left _ (List.mem_of_getElem? (i := 1) rfl)) (List.mem_append_left _ (List.mem_of_getElem? (i := 2) rfl)) (List.mem_append_right _ (List.mem_append_left _ (List.mem_append_right _ hdc))) hu8 hbt (by omega) hl4 hdb hdl hpb0 htb0 hqb0) (lw_V q1456 q1458 qs15 q129 q1459) (by decide +kernel) (o_recv C h (RC := RX1) (T := TX1) (N := 14) (List.mem_append_right _ (List.mem_append_left _ (List.mem_of_getElem? (i := 0) rfl))) rfl) (by decide) (by decide) rfl hl rfl (Nat.le_of_ble_eq_true rfl) dX1_look_12 (by omega) (fun ux ce9 H locs hux h hce9 hcv9 hcl9 => ?_) (fun u8 H locs hu8 h => ?_)
  · obtain ⟨q8, ⟨tb8, tc8, tg8, tl8⟩, ⟨qb8, qc8, qg8, ql8⟩, ⟨pb8, pc8, pg8, pl8⟩, E8⟩ := ux
    obtain ⟨hz0, ⟨x8, hx8⟩, hzT, hzQ, hzP, hzr⟩ := hux
    dsimp only at hz0 hx8 h
    have hq8 : (q8, .inr (10, fts x8 (csS tp dcl).1)) ∈ [((A 21), .inr (1, [.ref tb8, .int (nI tl8.length)])), (tb8, bar dA tc8 tg8), ((A 19), .inr (1, [.ref qb8, .int (nI ql8.length)])), (qb8, bar dA qc8 qg8), ((A 20), .inr (1, [.ref pb8, .int (nI pl8.length)])), (pb8, bar dA pc8 pg8), ((A 24), .inr (0, [.ref (A 23), .int (nI 0), .ref dc, .ref (A 17), .ref rl.1, .ref (A 0), .ref (A 5), .ref (A 11), .ref (A 12), .ref (A 18), .ref (A 19), .ref (A 20), .ref (A 21), .ref (A 22)])), ((A 18), .inr (1, [.ref kb3, .int (nI tp.length)])), (kb3, bar dA (gro kc tp.length) kg3)] ++ (((qW dA A O q ++ G) ++ E3) ++ E8) := ((perm_add (fun g f p0 p1 p2 => by (try simp only [p0, p1, p2]) <;> omega)) : List.Perm (α := Nat × va_E) ([((A 21), .inr (1, [.ref tb8, .int (nI tl8.length)])), (tb8, bar dA tc8 tg8), ((A 19), .inr (1, [.ref qb8, .int (nI ql8.length)])), (qb8, bar dA qc8 qg8), ((A 20), .inr (1, [.ref pb8, .int (nI pl8.length)])), (pb8, bar dA pc8 pg8)] ++ (([((A 24), .inr (0, [.ref (A 23), .int (nI 0), .ref dc, .ref (A 17), .ref rl.1, .ref (A 0), .ref (A 5), .ref (A 11), .ref (A 12), .ref (A 18), .ref (A 19), .ref (A 20), .ref (A 21), .ref (A 22)])), ((A 18), .inr (1, [.ref kb3, .int (nI tp.length)])), (kb3, bar dA (gro kc tp.length) kg3)] ++ ((qW dA A O q ++ G) ++ E3)) ++ E8)) ([((A 21), .inr (1, [.ref tb8, .int (nI tl8.length)])), (tb8, bar dA tc8 tg8), ((A 19), .inr (1, [.ref qb8, .int (nI ql8.length)])), (qb8, bar dA qc8 qg8), ((A 20), .inr (1, [.ref pb8, .int (nI pl8.length)])), (pb8, bar dA pc8 pg8), ((A 24), .inr (0, [.ref (A 23), .int (nI 0), .ref dc, .ref (A 17), .ref rl.1, .ref (A 0), .ref (A 5), .ref (A 11), .ref (A 12), .ref (A 18), .ref (A 19), .ref (A 20), .ref (A 21), .ref (A 22)])), ((A 18), .inr (1, [.ref kb3, .int (nI tp.length)])), (kb3, bar dA (gro kc tp.length) kg3)] ++ (((qW dA A O q ++ G) ++ E3) ++ E8))).mem_iff.mp hx8
    have h : Wd D B s ([((A 21), .inr (1, [.ref tb8, .int (nI tl8.length)])), (tb8, bar dA tc8 tg8), ((A 19), .inr (1, [.ref qb8, .int (nI ql8.length)])), (qb8, bar dA qc8 qg8), ((A 20), .inr (1, [.ref pb8, .int (nI pl8.length)])), (pb8, bar dA pc8 pg8), ((A 24), .inr (0, [.ref (A 23), .int (nI 0), .ref dc, .ref (A 17), .ref rl.1, .ref (A 0), .ref (A 5), .ref (A 11), .ref (A 12), .ref (A 18), .ref (A 19), .ref (A 20), .ref (A 21), .ref (A 22)])), ((A 18), .inr (1, [.ref kb3, .int (nI tp.length)])), (kb3, bar dA (gro kc tp.length) kg3)] ++ (((qW dA A O q ++ G) ++ E3) ++ E8)) H locs := h.permL (perm_add (fun g f p0 p1 p2 => by (try simp only [p0, p1, p2]) <;> omega))
    refine x_catch1 C hex (by decide) (by decide) q359 q618 hce9 hcv9 hcl9 ?_
    refine lv_astore (lv' := [(4, .ref q8), (0, .ref (A 24)), (1, .long (lN t))]) hx hb dX1_look_19 hl (by decide) rfl (fun ls hl => ?_)
    refine lv_aload hx hb dX1_look_21 (lv_at hl 0 rfl) ?_
    refine o_get C h (RC := RX13) (T := TX13) (N := 7) (hq8) rfl in_X13 6 (by decide) q672 rfl (v := .int ((csS tp dcl).1)) rfl dX1_look_23 ?_
    subst hQ
    have hK39 : RowOk (kb3, gro kc tp.length, kg3, tp) := ⟨hu83, by (try dsimp only) <;> omega, by (try dsimp only) <;> omega⟩
    have h : Wd D B s (qW dA A O q ++ ([((A 24), .inr (0, [.ref (A 23), .int (nI 0), .ref dc, .ref (A 17), .ref rl.1, .ref (A 0), .ref (A 5), .ref (A 11), .ref (A 12), .ref (A 18), .ref (A 19), .ref (A 20), .ref (A 21), .ref (A 22)]))] ++ ([((A 18), .inr (1, [.ref kb3, .int (nI tp.length)])), (kb3, bar dA (gro kc tp.length) kg3), ((A 19), .inr (1, [.ref qb8, .int (nI ql8.length)])), (qb8, bar dA qc8 qg8), ((A 20), .inr (1, [.ref pb8, .int (nI pl8.length)])), (pb8, bar dA pc8 pg8), ((A 21), .inr (1, [.ref tb8, .int (nI tl8.length)])), (tb8, bar dA tc8 tg8)] ++ (G ++ (E3 ++ E8))))) H locs := h.permL (perm_add (fun g f p0 p1 p2 => by (try simp only [p0, p1, p2]) <;> omega))
    refine vy_ret ?_
    exact ret_i C hr hlocks h (q, (kb3, gro kc tp.length, kg3, tp), (qb8, qc8, qg8, ql8), (pb8, pc8, pg8, pl8), (tb8, tc8, tg8, tl8), G ++ (E3 ++ E8)) (⟨hb9, hqo, hK39, hzQ, hzP, hzT, TR.app⟩) (by unfold lokC; rw [if_neg hz0]) rfl (by omega) (by omega) dX1_look_26
  obtain ⟨k9, se, ⟨tb8, tc8, tg8, tl8⟩, ⟨qb8, qc8, qg8, ql8⟩, ⟨pb8, pc8, pg8, pl8⟩, E8⟩ := u8
  obtain ⟨hz0, hz1, hzT, hzQ, hzP, hzr⟩ := hu8
  dsimp only at hz0 hz1 h
  have h : Wd D B s ([((A 21), .inr (1, [.ref tb8, .int (nI tl8.length)])), (tb8, bar dA tc8 tg8), ((A 19), .inr (1, [.ref qb8, .int (nI ql8.length)])), (qb8, bar dA qc8 qg8), ((A 20), .inr (1, [.ref pb8, .int (nI pl8.length)])), (pb8, bar dA pc8 pg8), ((A 24), .inr (0, [.ref (A 23), .int (nI 0), .ref dc, .ref (A 17), .ref rl.1, .ref (A 0), .ref (A 5), .ref (A 11), .ref (A 12), .ref (A 18), .ref (A 19), .ref (A 20), .ref (A 21), .ref (A 22)])), ((A 18), .inr (1, [.ref kb3, .int (nI tp.length)])), (kb3, bar dA (gro kc tp.length) kg3)] ++ (((qW dA A O q ++ G) ++ E3) ++ E8)) H locs := h.permL (perm_add (fun g f p0 p1 p2 => by (try simp only [p0, p1, p2]) <;> omega))
  show W p l e R s m args below meth c H locs (0 + 0 + 1 + (rC kc tp.length) + (rC pc9 tp.length + rC tc tp.length + rC qc tp.length + tp.length / 2 + 110)) (0 + 0 + 6 + (rS kc tp.length) + (rS pc9 tp.length + rS tc tp.length + rS qc tp.length + 9 * tp.length + 3800)) Q (F0 m 15 ls [.ref k9])
  obtain ⟨O1, hO1⟩ : ∃ z, z = [((A 18), .inr (1, [.ref kb3, .int (nI tp.length)])), (kb3, bar dA (gro kc tp.length) kg3), ((A 19), .inr (1, [.ref qb8, .int (nI ql8.length)])), (qb8, bar dA qc8 qg8), ((A 20), .inr (1, [.ref pb8, .int (nI pl8.length)])), (pb8, bar dA pc8 pg8), ((A 21), .inr (1, [.ref tb8, .int (nI tl8.length)])), (tb8, bar dA tc8 tg8)] ++ O := ⟨_, rfl⟩
  obtain ⟨G1, hG1⟩ : ∃ z, z = [((A 24), .inr (0, [.ref (A 23), .int (nI 0), .ref dc, .ref (A 17), .ref rl.1, .ref (A 0), .ref (A 5), .ref (A 11), .ref (A 12), .ref (A 18), .ref (A 19), .ref (A 20), .ref (A 21), .ref (A 22)]))] ++ (G ++ (E3 ++ E8)) := ⟨_, rfl⟩
  have h : Wd D B s (qW dA A O1 q ++ G1) H locs := by
    rw [hO1, hG1]
    unfold qW at h ⊢
    exact h.permL (perm_add (fun g f p0 p1 p2 => by (try simp only [p0, p1, p2]) <;> omega))
  have hmeG : ((A 24), .inr (0, [.ref (A 23), .int (nI 0), .ref dc, .ref (A 17), .ref rl.1, .ref (A 0), .ref (A 5), .ref (A 11), .ref (A 12), .ref (A 18), .ref (A 19), .ref (A 20), .ref (A 21), .ref (A 22)])) ∉ G := by
    have z := (List.nodup_append.mp h.nodup).2.1
    rw [hG1] at z
    exact fun q9 => (List.nodup_cons.mp z).1 (List.mem_append_left _ q9)
  obtain ⟨sb, hsb9⟩ : ∃ z, z = (csS tp dcl).2.1 := ⟨_, rfl⟩
  obtain ⟨txt, htxt⟩ : ∃ z, z = (csS tp dcl).2.2 := ⟨_, rfl⟩
  rw [← hsb9, ← htxt] at hz1
  have hlk : lokC Ry tp dcl (tmN v) = lokRC Ry sb txt t := by unfold lokC; rw [if_pos hz0, ← hsb9, ← htxt, htm]
  have hGs : ∀ z ∈ G, z ∈ G1 := fun z hz => by rw [hG1]; exact List.mem_append_right _ (List.mem_append_left _ hz)
  have hC1 : CaseIn dA (O1 ++ G1) k9 se sb txt := hz1.sub (fun z hz => by
    rw [hO1, hG1]
    rcases List.mem_append.mp hz with q9 | q9
    · refine List.mem_append_left _ (List.mem_append_left _ ?_)
      simp only [List.mem_cons, List.not_mem_nil, or_false] at q9 ⊢
      rcases q9 with q9 | q9 | q9 | q9 | q9 | q9 <;> simp only [q9, true_or, or_true]
    · rcases List.mem_append.mp q9 with q9 | q9
      · rw [List.mem_singleton.mp q9]; exact List.mem_append_right _ (List.mem_append_right _ (List.mem_append_left _ hdc))
      · exact List.mem_append_right _ (List.mem_append_right _ (List.mem_append_right _ (List.mem_append_right _ q9))))
  have hQF1 : QF dA A 0 dc rl.1 G1 := ⟨hGs _ hf4, hGs _ hf5, by rw [hG1]; exact List.mem_append_left _ List.mem_cons_self⟩
  have hRw1 : ∀ z ∈ ringW dA e0 rl Ry, z ∈ G1 := fun z hz => hGs z (hRw0 z hz)
  have hRS1 : RgS dA cx G1 rl Ry := hRS.sub hGs
  have hC1o := hC1
  obtain ⟨⟨ta, n9, g9, hca, hta, hts9, hn9⟩, hSi, htb9, htl9, kk9, hok9⟩ := hC1o
  have hSi0 := hSi
  obtain ⟨⟨hbbx, hblx, hbox, hb0x⟩, bax, snx, r1x, r2x, r3x, w1x, w2x, w3x, hcex, hbax, hsnx, hr1x, hr2x, hr3x⟩ := hSi
  dsimp only at hbbx
  have hlift : ∀ z ∈ O1 ++ G1, z ∈ qW dA A O1 q ++ G1 := fun z hz => (List.mem_append.mp hz).elim (fun q9 => List.mem_append_left _ (qW_O _ q9)) (fun q9 => List.mem_append_right _ q9)
  have hLI : LIn dA e0 (qW dA A O1 q ++ G1) rl (Ry.map Prod.fst) := ⟨by rw [List.length_map]; exact fun z hz => List.mem_append_right _ (hRw1 z (lw_ring hz)), hRS.1.1⟩
  obtain ⟨ed9, hcl9r⟩ := hLI.cell
  have hS9 : SealIn dA (qW dA A O1 q ++ G1) (se, sb) 0 := hSi0.sub (fun b q9 hq => hlift _ hq) (fun a fs hq => hlift _ hq)
  have h : Wd D B s ((qW dA A O1 q ++ G1)) H locs := h
  refine lv_astore_n (lv' := [(3, .ref k9), (0, .ref (A 24)), (1, .long (lN t))]) hx hb dX1_look_15 rfl hl (by decide) rfl (fun ls hl => ?_)
  refine lv_goto (tgt := 27) hx hb dX1_look_16 (by decide) ?_
  refine lv_aload_n hx hb dX1_look_27 rfl (lv_at hl 0 rfl) ?_
  refine call_VR (As := []) (rest := []) (n := 0) C h (cC_seal l D dA B Z hZ _ k9 se ta txt.length (hlift _ hca)) (lw_V q1504 q1505 q1506 q166 q1507) (by decide +kernel) (o_recv C h (RC := RX18) (T := TX18) (N := 3) (hlift _ hca) rfl) (by decide) (by decide) rfl hl rfl (Nat.le_of_ble_eq_true rfl) dX1_look_28 (by omega) (fun _ H locs _ h => ?_)
  refine lv_astore (lv' := [(4, .ref se), (3, .ref k9), (0, .ref (A 24)), (1, .long (lN t))]) hx hb dX1_look_31 hl (by decide) rfl (fun ls hl => ?_)
  refine lv_aload hx hb dX1_look_33 (lv_at hl 0 rfl) ?_
  refine o_get C h (RC := RX17) (T := TX17) (N := 19) (hlift _ hcex) rfl in_X17 14 (by decide) q1333 rfl (v := .int (bZ (sVain sb))) rfl dX1_look_35 ?_
  refine z_if_ne (tgt := 57) hx hb dX1_look_38 (by decide) (fun c38 => ?_) (fun c38 => ?_)
  · have hl1 : lokRC Ry sb txt t = nI 1 := by unfold lokRC; rw [if_pos (Or.inl c38)]
    refine lv_iconst (v := nI 1) hx hb dX1_look_57 (by decide) ?_
    subst hQ
    have hK39 : RowOk (kb3, gro kc tp.length, kg3, tp) := ⟨hu83, by (try dsimp only) <;> omega, by (try dsimp only) <;> omega⟩
    have h : Wd D B s (qW dA A O q ++ ([((A 24), .inr (0, [.ref (A 23), .int (nI 0), .ref dc, .ref (A 17), .ref rl.1, .ref (A 0), .ref (A 5), .ref (A 11), .ref (A 12), .ref (A 18), .ref (A 19), .ref (A 20), .ref (A 21), .ref (A 22)]))] ++ ([((A 18), .inr (1, [.ref kb3, .int (nI tp.length)])), (kb3, bar dA (gro kc tp.length) kg3), ((A 19), .inr (1, [.ref qb8, .int (nI ql8.length)])), (qb8, bar dA qc8 qg8), ((A 20), .inr (1, [.ref pb8, .int (nI pl8.length)])), (pb8, bar dA pc8 pg8), ((A 21), .inr (1, [.ref tb8, .int (nI tl8.length)])), (tb8, bar dA tc8 tg8)] ++ (G ++ (E3 ++ E8))))) H locs := by
      rw [hO1, hG1] at h
      unfold qW at h ⊢
      exact h.permL (perm_add (fun g f p0 p1 p2 => by (try simp only [p0, p1, p2]) <;> omega))
    refine vy_ret ?_
    exact ret_i C hr hlocks h (q, (kb3, gro kc tp.length, kg3, tp), (qb8, qc8, qg8, ql8), (pb8, pc8, pg8, pl8), (tb8, tc8, tg8, tl8), G ++ (E3 ++ E8)) (⟨hb9, hqo, hK39, hzQ, hzP, hzT, TR.app⟩) (by rw [hlk, hl1]) rfl (by omega) (by omega) dX1_look_58
  · have j59 : (¬ ((sNote sb).2.2.2.2.1 = none ∧ (sNote sb).2.2.2.1 = none)) → ∀ (H : Heap) (locs : List Loc), Wd D B s ((qW dA A O1 q ++ G1)) H locs → ∀ (ls : Array Slot), lv_has ls 8 [(4, .ref se), (3, .ref k9), (0, .ref (A 24)), (1, .long (lN t))] → W p l e R s m args below meth c H locs (0 + 0 + 1 + (rC kc tp.length) + (rC pc9 tp.length + rC tc tp.length + rC qc tp.length + tp.length / 2 + 110) + 0) (0 + 0 + 6 + (rS kc tp.length) + (rS pc9 tp.length + rS tc tp.length + rS qc tp.length + 9 * tp.length + 3800) + 0) Q (F0 m 59 ls []) := by
      intro  hnm H locs h ls hl
      have hv8 : sVain sb = false := c38
      have hlr : lokRC Ry sb txt t = match fdC Ry sb with | none => nI 2 | some tt => jdgC tt sb txt t := by unfold lokRC; rw [if_neg (fun q9 => q9.elim (fun z => by rw [hv8] at z; cases z) hnm)]
      refine lv_iconst (v := nI 0) hx hb dX1_look_59 (by decide) ?_
      refine lv_istore (lv' := [(5, .int (nI 0)), (4, .ref se), (3, .ref k9), (0, .ref (A 24)), (1, .long (lN t))]) hx hb dX1_look_60 hl (by decide) rfl (fun ls hl => ?_)
      have loop : ∀ (nn : Nat) (i : Nat), (i ≤ Ry.length) → (∀ j x, j < i → Ry[j]? = some x → kyF x sb = none) → Ry.length - i < nn → ∀ (H : Heap) (locs : List Loc), Wd D B s ((qW dA A O1 q ++ G1)) H locs → ∀ (ls : Array Slot), lv_has ls 8 [(0, .ref (A 24)), (1, .long (lN t)), (3, .ref k9), (4, .ref se), (5, .int (nI i))] → W p l e R s m args below meth c H locs (0 + 0 + 1 + (rC kc tp.length) + (rC pc9 tp.length + rC tc tp.length + rC qc tp.length + tp.length / 2 + 110) + 0) (0 + 0 + 6 + (rS kc tp.length) + (rS pc9 tp.length + rS tc tp.length + rS qc tp.length + 9 * tp.length + 3800) + 0) Q (F0 m 62 ls []) := by
        intro nn
        induction nn with
        | zero => intro i  hi16 hmi hme; exact absurd hme (Nat.not_lt_zero _)
        | succ nn ih =>
          intro i  hi16 hmi hme H locs h ls hl
          refine lv_iload hx hb dX1_look_62 (lv_at hl 4 rfl) ?_
          refine lv_aload_n hx hb dX1_look_64 rfl (lv_at hl 0 rfl) ?_
          refine o_get C h (RC := RX1) (T := TX1) (N := 14) (List.mem_append_right _ hQF1.2.2) rfl in_X1 4 (by decide) q312 rfl (v := .ref rl.1) rfl dX1_look_65 ?_
          refine call_VR (As := []) (rest := [.int (nI i)]) (n := 0) C h (cA_size l D dA B Z hZ _ e0 rl _ hLI) (lw_V q360 q361 q362 q133 q363) (by decide +kernel) (o_recv C h (RC := RJ2) (T := TJ2) (N := 3) (hcl9r) rfl) (by decide) (by decide) rfl hl rfl (Nat.le_of_ble_eq_true rfl) dX1_look_68 (by omega) (fun _ H locs _ h => ?_)
          refine n_top (y := nI Ry.length) (by rw [List.length_map]) ?_
          refine n_icmp_ge (tgt := 142) hx hb (by omega) (by omega) dX1_look_71 (by decide) (fun c71 => ?_) (fun c71 => ?_)
          · have hl2 : lokRC Ry sb txt t = nI 2 := by rw [hlr, fdC_miss (fun j x h1 h2 => hmi j x (by omega) h2)]
            refine lv_iconst (v := nI 2) hx hb dX1_look_142 (by decide) ?_
            subst hQ
            have hK39 : RowOk (kb3, gro kc tp.length, kg3, tp) := ⟨hu83, by (try dsimp only) <;> omega, by (try dsimp only) <;> omega⟩
            have h : Wd D B s (qW dA A O q ++ ([((A 24), .inr (0, [.ref (A 23), .int (nI 0), .ref dc, .ref (A 17), .ref rl.1, .ref (A 0), .ref (A 5), .ref (A 11), .ref (A 12), .ref (A 18), .ref (A 19), .ref (A 20), .ref (A 21), .ref (A 22)]))] ++ ([((A 18), .inr (1, [.ref kb3, .int (nI tp.length)])), (kb3, bar dA (gro kc tp.length) kg3), ((A 19), .inr (1, [.ref qb8, .int (nI ql8.length)])), (qb8, bar dA qc8 qg8), ((A 20), .inr (1, [.ref pb8, .int (nI pl8.length)])), (pb8, bar dA pc8 pg8), ((A 21), .inr (1, [.ref tb8, .int (nI tl8.length)])), (tb8, bar dA tc8 tg8)] ++ (G ++ (E3 ++ E8))))) H locs := by
              rw [hO1, hG1] at h
              unfold qW at h ⊢
              exact h.permL (perm_add (fun g f p0 p1 p2 => by (try simp only [p0, p1, p2]) <;> omega))
            refine vy_ret ?_
            exact ret_i C hr hlocks h (q, (kb3, gro kc tp.length, kg3, tp), (qb8, qc8, qg8, ql8), (pb8, pc8, pg8, pl8), (tb8, tc8, tg8, tl8), G ++ (E3 ++ E8)) (⟨hb9, hqo, hK39, hzQ, hzP, hzT, TR.app⟩) (by rw [hlk, hl2]) rfl (by omega) (by omega) dX1_look_143
          · refine lv_aload_n hx hb dX1_look_74 rfl (lv_at hl 0 rfl) ?_
            refine o_get C h (RC := RX1) (T := TX1) (N := 14) (List.mem_append_right _ hQF1.2.2) rfl in_X1 4 (by decide) q312 rfl (v := .ref rl.1) rfl dX1_look_75 ?_
            refine lv_iload hx hb dX1_look_78 (lv_at hl 4 rfl) ?_
            obtain ⟨k, hk⟩ := at_lt (l := Ry) (i := i) (by omega)
            have hkm := List.mem_of_getElem? hk
            have hkw : ∀ z ∈ kyW dA e0 k, z ∈ G1 := fun z hz => hRw1 z (ky_ring hkm hz)
            have hKk := (hRS1.2 k hkm).1
            have hpl : LIn dA e0 (qW dA A O1 q ++ G1) k.2.2.2.2.1 (k.2.2.2.2.2.map Prod.fst) := (hKk.pl hkw).sub (fun z hz => List.mem_append_right _ ((hKk.pl hkw).1 z hz))
            obtain ⟨edp, hcpl⟩ := hpl.cell
            have hp8n := hKk.2.2.2.1.2.2
            have hcu := sumL_mem uC hkm
            have hcs9 := sumL_mem uSl hkm
            refine call_VR (As := [.int (nI i)]) (rest := []) (n := 1) C h (cA_get l D dA B Z hZ _ e0 rl _ i k.1 hLI (at_map hk)) (lw_V q364 q365 q366 q133 q367) (by decide +kernel) (o_recv C h (RC := RJ2) (T := TJ2) (N := 3) (hcl9r) rfl) (by decide) (by decide) rfl hl rfl (Nat.le_of_ble_eq_true rfl) dX1_look_80 (by omega) (fun _ H locs _ h => ?_)
            refine o_cast C h (RC := RX9) (T := TX9) (N := 4) (List.mem_append_right _ (hkw _ kyc_in)) rfl q378 dX1_look_83 ?_
            refine lv_astore (lv' := [(6, .ref k.1), (0, .ref (A 24)), (1, .long (lN t)), (3, .ref k9), (4, .ref se), (5, .int (nI i))]) hx hb dX1_look_86 hl (by decide) rfl (fun ls hl => ?_)
            refine lv_iconst (v := -1) hx hb dX1_look_88 (by decide) ?_
            refine lv_istore (lv' := [(7, .int (-1)), (6, .ref k.1), (0, .ref (A 24)), (1, .long (lN t)), (3, .ref k9), (4, .ref se), (5, .int (nI i))]) hx hb dX1_look_89 hl (by decide) rfl (fun ls hl => ?_)
            refine lv_iload hx hb dX1_look_91 (lv_at hl 0 rfl) ?_
            refine lv_aload hx hb dX1_look_93 (lv_at hl 1 rfl) ?_
            refine o_get C h (RC := RX9) (T := TX9) (N := 4) (List.mem_append_right _ (hkw _ kyc_in)) rfl in_X9 3 (by decide) q401 rfl (v := .ref k.2.2.2.2.1.1) rfl dX1_look_95 ?_
            refine call_VR (As := []) (rest := [.int (-1)]) (n := 0) C h (cA_size l D dA B Z hZ _ e0 k.2.2.2.2.1 _ hpl) (lw_V q360 q361 q362 q133 q363) (by decide +kernel) (o_recv C h (RC := RJ2) (T := TJ2) (N := 3) (hcpl) rfl) (by decide) (by decide) rfl hl rfl (Nat.le_of_ble_eq_true rfl) dX1_look_98 (by omega) (fun _ H locs _ h => ?_)
            refine n_top (y := nI k.2.2.2.2.2.length) (by rw [List.length_map]) ?_
            refine lv_icmp_ge (tgt := 136) hx hb dX1_look_101 (by decide) (fun c101 => absurd (Int32.lt_of_le_of_lt c101 (by decide : (-1 : Int32) < 0)) (n_nneg (by omega))) (fun c101 => ?_)
            refine lv_aload hx hb dX1_look_104 (lv_at hl 1 rfl) ?_
            refine lv_iload hx hb dX1_look_106 (lv_at hl 0 rfl) ?_
            have hN9 : NumIn dA (qW dA A O1 q ++ G1) k.2.1 := hKk.1.sub (fun b q9 hq => List.mem_append_right _ hq) (fun a fs hq => List.mem_append_right _ hq)
            refine call_VR (As := [.int (-1)]) (rest := []) (n := 1) C h (c9_numbersOfK l D dA B Z hZ _ k.1 _ k.2.1.1 _ _ (List.mem_append_right _ (hkw _ kyc_in))) (lw_V q1508 q1509 q1510 q142 q1511) (by decide +kernel) (o_recv C h (RC := RX9) (T := TX9) (N := 4) (List.mem_append_right _ (hkw _ kyc_in)) rfl) (by decide) (by decide) rfl hl rfl (Nat.le_of_ble_eq_true rfl) dX1_look_108 (by omega) (fun _ H locs _ h => ?_)
            refine lv_aload hx hb dX1_look_111 (lv_at hl 5 rfl) ?_
            refine call_S (As := [.ref k.2.1.1, .ref se]) (rest := []) (n := 2) C h (c1_isIts l D dA B Z hZ _ k.2.1 (se, sb) 0 hN9 hS9 hnm) (lw_S q1512 q1513 q129 q1514) (by decide +kernel) (by decide) (by decide) rfl hl rfl (Nat.le_of_ble_eq_true rfl) dX1_look_113 (by omega) (fun _ H locs _ h => ?_)
            refine z_if_eq (tgt := 130) hx hb dX1_look_116 (by decide) (fun c116 => ?_) (fun c116 => ?_)
            · have hkn0 : nameOf sb (sha1 (keyMsg k.2.1.2.1)) = false := c116
              refine lv_iinc (v := nI 0) (lv' := [(7, .int (nI 0)), (6, .ref k.1), (0, .ref (A 24)), (1, .long (lN t)), (3, .ref k9), (4, .ref se), (5, .int (nI i))]) hx hb dX1_look_130 hl (k := 0) rfl (by decide) (by decide) rfl (fun ls hl => ?_)
              refine lv_goto (tgt := 91) hx hb dX1_look_133 (by decide) ?_
              have hl : lv_has ls 8 [(7, .int (nI 0)), (6, .ref k.1), (0, .ref (A 24)), (1, .long (lN t)), (3, .ref k9), (4, .ref se), (5, .int (nI i))] := hl
              have loop2 : ∀ (nn2 : Nat) (j : Nat), (j ≤ k.2.2.2.2.2.length) → (∀ a x, a < j → k.2.2.2.2.2[a]? = some x → nameOf sb (sha1 (keyMsg x.2.1.2.1)) = false) → k.2.2.2.2.2.length - j < nn2 → ∀ (H : Heap) (locs : List Loc), Wd D B s ((qW dA A O1 q ++ G1)) H locs → ∀ (ls : Array Slot), lv_has ls 8 [(0, .ref (A 24)), (1, .long (lN t)), (3, .ref k9), (4, .ref se), (5, .int (nI i)), (6, .ref k.1), (7, .int (nI j))] → W p l e R s m args below meth c H locs (0 + 0 + 1 + (rC kc tp.length) + (rC pc9 tp.length + rC tc tp.length + rC qc tp.length + tp.length / 2 + 110) + 0 + 0 + 0 + 0 + 0 + 0) (0 + 0 + 6 + (rS kc tp.length) + (rS pc9 tp.length + rS tc tp.length + rS qc tp.length + 9 * tp.length + 3800) + 0 + 0 + 0 + 0 + 0 + 0) Q (F0 m 91 ls []) := by
                intro nn2
                induction nn2 with
                | zero => intro j  hjn hmj hme; exact absurd hme (Nat.not_lt_zero _)
                | succ nn2 ih2 =>
                  intro j  hjn hmj hme H locs h ls hl
                  refine lv_iload hx hb dX1_look_91 (lv_at hl 6 rfl) ?_
                  refine lv_aload hx hb dX1_look_93 (lv_at hl 5 rfl) ?_
                  refine o_get C h (RC := RX9) (T := TX9) (N := 4) (List.mem_append_right _ (hkw _ kyc_in)) rfl in_X9 3 (by decide) q401 rfl (v := .ref k.2.2.2.2.1.1) rfl dX1_look_95 ?_
                  refine call_VR (As := []) (rest := [.int (nI j)]) (n := 0) C h (cA_size l D dA B Z hZ _ e0 k.2.2.2.2.1 _ hpl) (lw_V q360 q361 q362 q133 q363) (by decide +kernel) (o_recv C h (RC := RJ2) (T := TJ2) (N := 3) (hcpl) rfl) (by decide) (by decide) rfl hl rfl (Nat.le_of_ble_eq_true rfl) dX1_look_98 (by omega) (fun _ H locs _ h => ?_)
                  refine n_top (y := nI k.2.2.2.2.2.length) (by rw [List.length_map]) ?_
                  refine n_icmp_ge (tgt := 136) hx hb (by omega) (by omega) dX1_look_101 (by decide) (fun c101 => ?_) (fun c101 => ?_)
                  · have hkn : kyF k sb = none := kyF_n hkn0 (fun a x h1 h2 => hmj a x (by omega) h2)
                    refine lv_iinc (v := nI (i + 1)) (lv' := [(5, .int (nI (i + 1))), (0, .ref (A 24)), (1, .long (lN t)), (3, .ref k9), (4, .ref se), (6, .ref k.1), (7, .int (nI j))]) hx hb dX1_look_136 hl (k := 4) rfl (nI_add i 1) (by decide) rfl (fun ls hl => ?_)
                    refine lv_goto (tgt := 62) hx hb dX1_look_139 (by decide) ?_
                    exact ih (i + 1) (by omega) (fun j x h1 h2 => by rcases Nat.lt_succ_iff_lt_or_eq.mp h1 with q9 | q9; exact hmi j x q9 h2; rw [q9, hk] at h2; cases h2; exact hkn) (by omega) _ _ h _ (lv_sub hl [1, 2, 3, 4, 0] rfl)
                  · refine lv_aload hx hb dX1_look_104 (lv_at hl 5 rfl) ?_
                    refine lv_iload hx hb dX1_look_106 (lv_at hl 6 rfl) ?_
                    obtain ⟨pq, hpq⟩ := at_lt (l := k.2.2.2.2.2) (i := j) (by omega)
                    have hpm := List.mem_of_getElem? hpq
                    have hN9 : NumIn dA (qW dA A O1 q ++ G1) pq.2.1 := (hKk.2.2.2.2.2 pq hpm).1.sub (fun b q9 hq => List.mem_append_right _ hq) (fun a fs hq => List.mem_append_right _ hq)
                    refine call_VR (As := [.int (nI j)]) (rest := []) (n := 1) C h (c9_numbersOf l D dA B Z hZ _ k.1 _ k.2.1.1 _ e0 j k.2.2.2.2.1 k.2.2.2.2.2 pq (List.mem_append_right _ (hkw _ kyc_in)) hpl (fun y9 hy9 => ⟨(hKk.2.2.2.2.2 y9 hy9).1.sub (fun b q hq => List.mem_append_right _ hq) (fun a fs hq => List.mem_append_right _ hq), List.mem_append_right _ (KyIn.ptc hkw hy9)⟩) hpq (by omega)) (lw_V q1508 q1509 q1510 q142 q1511) (by decide +kernel) (o_recv C h (RC := RX9) (T := TX9) (N := 4) (List.mem_append_right _ (hkw _ kyc_in)) rfl) (by decide) (by decide) rfl hl rfl (Nat.le_of_ble_eq_true rfl) dX1_look_108 (by omega) (fun _ H locs _ h => ?_)
                    refine lv_aload hx hb dX1_look_111 (lv_at hl 3 rfl) ?_
                    refine call_S (As := [.ref pq.2.1.1, .ref se]) (rest := []) (n := 2) C h (c1_isIts l D dA B Z hZ _ pq.2.1 (se, sb) 0 hN9 hS9 hnm) (lw_S q1512 q1513 q129 q1514) (by decide +kernel) (by decide) (by decide) rfl hl rfl (Nat.le_of_ble_eq_true rfl) dX1_look_113 (by omega) (fun _ H locs _ h => ?_)
                    refine z_if_eq (tgt := 130) hx hb dX1_look_116 (by decide) (fun c116 => ?_) (fun c116 => ?_)
                    · refine lv_iinc (v := nI (j + 1)) (lv' := [(7, .int (nI (j + 1))), (0, .ref (A 24)), (1, .long (lN t)), (3, .ref k9), (4, .ref se), (5, .int (nI i)), (6, .ref k.1)]) hx hb dX1_look_130 hl (k := 6) rfl (nI_add j 1) (by decide) rfl (fun ls hl => ?_)
                      refine lv_goto (tgt := 91) hx hb dX1_look_133 (by decide) ?_
                      exact ih2 (j + 1) (by omega) (fun a x h1 h2 => by rcases Nat.lt_succ_iff_lt_or_eq.mp h1 with q9 | q9; exact hmj a x q9 h2; rw [q9, hpq] at h2; cases h2; exact c116) (by omega) _ _ h _ (lv_sub hl [1, 2, 3, 4, 5, 6, 0] rfl)
                    · have hfd : fdC Ry sb = some (k, some j) := fdC_hit hmi hk (kyF_p hkn0 hmj hpq c116)
                      have hTI : ThIs Ry (k, some j) (nI j) := ⟨hkm, Or.inr ⟨j, pq, rfl, rfl, by omega, hpq⟩⟩
                      have hlj : lokRC Ry sb txt t = jdgC (k, some j) sb txt t := by rw [hlr, hfd]
                      refine lv_aload_n hx hb dX1_look_119 rfl (lv_at hl 0 rfl) ?_
                      refine lv_aload_n hx hb dX1_look_120 rfl (lv_at hl 2 rfl) ?_
                      refine lv_aload hx hb dX1_look_121 (lv_at hl 5 rfl) ?_
                      refine lv_iload hx hb dX1_look_123 (lv_at hl 6 rfl) ?_
                      refine lv_lload_n hx hb dX1_look_125 rfl (lv_at hl 1 rfl) ?_
                      have hkt : KyT dA e0 cx G1 ((k, some j) : KY × Option Nat).1 := KyS.t hRw1 hRS1 hkm
                      have hut9 : usTs (k, some j) = uC k := rfl
                      refine call_VR (As := [.ref k9, .ref k.1, .int (nI j), .long (lN t)]) (rest := []) (n := 4) C h (cQ_judge l D dA B Z hZ G1 A O1 0 dc rl.1 f1 f2 q cx e0 (k, some j) Ry (nI j) k9 se sb txt t hzq hQF1 hqo hC1 hv8 hTI hkt ht) (lw_V q1519 q1521 qs19 q129 q1522) (by decide +kernel) (o_recv C h (RC := RX1) (T := TX1) (N := 14) (List.mem_append_right _ hQF1.2.2) rfl) (by decide) (by decide) rfl hl rfl (Nat.le_of_ble_eq_true rfl) dX1_look_126 (by omega) (fun u5 H locs hu5 h => ?_)
                      obtain ⟨q5, G5⟩ := u5
                      obtain ⟨hq5, hT5⟩ := hu5
                      dsimp only at hq5 hT5 h
                      subst hQ
                      have hK39 : RowOk (kb3, gro kc tp.length, kg3, tp) := ⟨hu83, by (try dsimp only) <;> omega, by (try dsimp only) <;> omega⟩
                      obtain ⟨E9, hp9⟩ := sub_perm (F := [((A 24), .inr (0, [.ref (A 23), .int (nI 0), .ref dc, .ref (A 17), .ref rl.1, .ref (A 0), .ref (A 5), .ref (A 11), .ref (A 12), .ref (A 18), .ref (A 19), .ref (A 20), .ref (A 21), .ref (A 22)]))]) (F' := G5) (by simp) (fun z hz => by rw [List.mem_singleton.mp hz]; exact hT5.ob (by decide) hQF1.2.2)
                      have h : Wd D B s (qW dA A O q5 ++ ([((A 24), .inr (0, [.ref (A 23), .int (nI 0), .ref dc, .ref (A 17), .ref rl.1, .ref (A 0), .ref (A 5), .ref (A 11), .ref (A 12), .ref (A 18), .ref (A 19), .ref (A 20), .ref (A 21), .ref (A 22)]))] ++ ([((A 18), .inr (1, [.ref kb3, .int (nI tp.length)])), (kb3, bar dA (gro kc tp.length) kg3), ((A 19), .inr (1, [.ref qb8, .int (nI ql8.length)])), (qb8, bar dA qc8 qg8), ((A 20), .inr (1, [.ref pb8, .int (nI pl8.length)])), (pb8, bar dA pc8 pg8), ((A 21), .inr (1, [.ref tb8, .int (nI tl8.length)])), (tb8, bar dA tc8 tg8)] ++ E9))) H locs := by
                        have h9 : Wd D B s (qW dA A O1 q5 ++ ([((A 24), .inr (0, [.ref (A 23), .int (nI 0), .ref dc, .ref (A 17), .ref rl.1, .ref (A 0), .ref (A 5), .ref (A 11), .ref (A 12), .ref (A 18), .ref (A 19), .ref (A 20), .ref (A 21), .ref (A 22)]))] ++ E9)) H locs := h.permL (hp9.append_left _)
                        rw [hO1] at h9
                        unfold qW at h9 ⊢
                        exact h9.permL (perm_add (fun g f p0 p1 p2 => by (try simp only [p0, p1, p2]) <;> omega))
                      have hTR9 : TR dA cx G E9 := TR.drop0 hmeG ⟨_, rfl⟩ (by rw [← hG1]; exact hT5) hp9
                      refine vy_ret ?_
                      exact ret_i C hr hlocks h (q5, (kb3, gro kc tp.length, kg3, tp), (qb8, qc8, qg8, ql8), (pb8, pc8, pg8, pl8), (tb8, tc8, tg8, tl8), E9) (⟨hb9, hq5, hK39, hzQ, hzP, hzT, hTR9⟩) (by rw [hlk, hlj]) rfl (by omega) (by omega) dX1_look_129
              exact loop2 _ 0 (Nat.zero_le _) (fun a x ha => absurd ha (Nat.not_lt_zero _)) (Nat.lt_succ_self _) _ _ h _ (lv_sub hl [2, 3, 4, 5, 6, 1, 0] rfl)
            · have hfd : fdC Ry sb = some (k, none) := fdC_hit hmi hk (kyF_k c116)
              have hTI : ThIs Ry (k, none) (-1) := ⟨hkm, Or.inl ⟨rfl, rfl⟩⟩
              have hlj : lokRC Ry sb txt t = jdgC (k, none) sb txt t := by rw [hlr, hfd]
              refine lv_aload_n hx hb dX1_look_119 rfl (lv_at hl 2 rfl) ?_
              refine lv_aload_n hx hb dX1_look_120 rfl (lv_at hl 4 rfl) ?_
              refine lv_aload hx hb dX1_look_121 (lv_at hl 1 rfl) ?_
              refine lv_iload hx hb dX1_look_123 (lv_at hl 0 rfl) ?_
              refine lv_lload_n hx hb dX1_look_125 rfl (lv_at hl 3 rfl) ?_
              have hkt : KyT dA e0 cx G1 ((k, none) : KY × Option Nat).1 := KyS.t hRw1 hRS1 hkm
              have hut9 : usTs (k, none) = uC k := rfl
              refine call_VR (As := [.ref k9, .ref k.1, .int (-1), .long (lN t)]) (rest := []) (n := 4) C h (cQ_judge l D dA B Z hZ G1 A O1 0 dc rl.1 f1 f2 q cx e0 (k, none) Ry (-1) k9 se sb txt t hzq hQF1 hqo hC1 hv8 hTI hkt ht) (lw_V q1519 q1521 qs19 q129 q1522) (by decide +kernel) (o_recv C h (RC := RX1) (T := TX1) (N := 14) (List.mem_append_right _ hQF1.2.2) rfl) (by decide) (by decide) rfl hl rfl (Nat.le_of_ble_eq_true rfl) dX1_look_126 (by omega) (fun u5 H locs hu5 h => ?_)
              obtain ⟨q5, G5⟩ := u5
              obtain ⟨hq5, hT5⟩ := hu5
              dsimp only at hq5 hT5 h
              subst hQ
              have hK39 : RowOk (kb3, gro kc tp.length, kg3, tp) := ⟨hu83, by (try dsimp only) <;> omega, by (try dsimp only) <;> omega⟩
              obtain ⟨E9, hp9⟩ := sub_perm (F := [((A 24), .inr (0, [.ref (A 23), .int (nI 0), .ref dc, .ref (A 17), .ref rl.1, .ref (A 0), .ref (A 5), .ref (A 11), .ref (A 12), .ref (A 18), .ref (A 19), .ref (A 20), .ref (A 21), .ref (A 22)]))]) (F' := G5) (by simp) (fun z hz => by rw [List.mem_singleton.mp hz]; exact hT5.ob (by decide) hQF1.2.2)
              have h : Wd D B s (qW dA A O q5 ++ ([((A 24), .inr (0, [.ref (A 23), .int (nI 0), .ref dc, .ref (A 17), .ref rl.1, .ref (A 0), .ref (A 5), .ref (A 11), .ref (A 12), .ref (A 18), .ref (A 19), .ref (A 20), .ref (A 21), .ref (A 22)]))] ++ ([((A 18), .inr (1, [.ref kb3, .int (nI tp.length)])), (kb3, bar dA (gro kc tp.length) kg3), ((A 19), .inr (1, [.ref qb8, .int (nI ql8.length)])), (qb8, bar dA qc8 qg8), ((A 20), .inr (1, [.ref pb8, .int (nI pl8.length)])), (pb8, bar dA pc8 pg8), ((A 21), .inr (1, [.ref tb8, .int (nI tl8.length)])), (tb8, bar dA tc8 tg8)] ++ E9))) H locs := by
                have h9 : Wd D B s (qW dA A O1 q5 ++ ([((A 24), .inr (0, [.ref (A 23), .int (nI 0), .ref dc, .ref (A 17), .ref rl.1, .ref (A 0), .ref (A 5), .ref (A 11), .ref (A 12), .ref (A 18), .ref (A 19), .ref (A 20), .ref (A 21), .ref (A 22)]))] ++ E9)) H locs := h.permL (hp9.append_left _)
                rw [hO1] at h9
                unfold qW at h9 ⊢
                exact h9.permL (perm_add (fun g f p0 p1 p2 => by (try simp only [p0, p1, p2]) <;> omega))
              have hTR9 : TR dA cx G E9 := TR.drop0 hmeG ⟨_, rfl⟩ (by rw [← hG1]; exact hT5) hp9
              refine vy_ret ?_
              exact ret_i C hr hlocks h (q5, (kb3, gro kc tp.length, kg3, tp), (qb8, qc8, qg8, ql8), (pb8, pc8, pg8, pl8), (tb8, tc8, tg8, tl8), E9) (⟨hb9, hq5, hK39, hzQ, hzP, hzT, hTR9⟩) (by rw [hlk, hlj]) rfl (by omega) (by omega) dX1_look_129
      exact loop _ 0 (Nat.zero_le _) (fun j x hj => absurd hj (Nat.not_lt_zero _)) (Nat.lt_succ_self _) _ _ h _ (lv_sub hl [3, 4, 2, 1, 0] rfl)
    refine lv_aload hx hb dX1_look_41 (lv_at hl 0 rfl) ?_
    refine o_get C h (RC := RX17) (T := TX17) (N := 19) (hlift _ hcex) rfl in_X17 10 (by decide) q1325 rfl (v := va_rf r2x) rfl dX1_look_43 ?_
    refine q_ifnonnull (tgt := 59) hx hb dX1_look_46 (by decide) (fun a46 c46 => ?_) (fun c46 => ?_)
    · have hnm : ¬ ((sNote sb).2.2.2.2.1 = none ∧ (sNote sb).2.2.2.1 = none) := fun q9 => by obtain ⟨b9, hb8, _⟩ := ROb_s hr2x c46; rw [hb8] at q9; cases q9.1
      exact j59  hnm _ _ h _ (lv_sub hl [0, 1, 2, 3] rfl)
    · refine lv_aload hx hb dX1_look_49 (lv_at hl 0 rfl) ?_
      refine o_get C h (RC := RX17) (T := TX17) (N := 19) (hlift _ hcex) rfl in_X17 9 (by decide) q1323 rfl (v := va_rf r1x) rfl dX1_look_51 ?_
      refine q_ifnonnull (tgt := 59) hx hb dX1_look_54 (by decide) (fun a54 c54 => ?_) (fun c54 => ?_)
      · have hnm : ¬ ((sNote sb).2.2.2.2.1 = none ∧ (sNote sb).2.2.2.1 = none) := fun q9 => by obtain ⟨b9, hb8, _⟩ := ROb_s hr1x c54; rw [hb8] at q9; cases q9.2
        exact j59  hnm _ _ h _ (lv_sub hl [0, 1, 2, 3] rfl)
      · have hl1 : lokRC Ry sb txt t = nI 1 := by unfold lokRC; rw [if_pos (Or.inr ⟨ROb_n hr2x c46, ROb_n hr1x c54⟩)]
        refine lv_iconst (v := nI 1) hx hb dX1_look_57 (by decide) ?_
        subst hQ
        have hK39 : RowOk (kb3, gro kc tp.length, kg3, tp) := ⟨hu83, by (try dsimp only) <;> omega, by (try dsimp only) <;> omega⟩
        have h : Wd D B s (qW dA A O q ++ ([((A 24), .inr (0, [.ref (A 23), .int (nI 0), .ref dc, .ref (A 17), .ref rl.1, .ref (A 0), .ref (A 5), .ref (A 11), .ref (A 12), .ref (A 18), .ref (A 19), .ref (A 20), .ref (A 21), .ref (A 22)]))] ++ ([((A 18), .inr (1, [.ref kb3, .int (nI tp.length)])), (kb3, bar dA (gro kc tp.length) kg3), ((A 19), .inr (1, [.ref qb8, .int (nI ql8.length)])), (qb8, bar dA qc8 qg8), ((A 20), .inr (1, [.ref pb8, .int (nI pl8.length)])), (pb8, bar dA pc8 pg8), ((A 21), .inr (1, [.ref tb8, .int (nI tl8.length)])), (tb8, bar dA tc8 tg8)] ++ (G ++ (E3 ++ E8))))) H locs := by
          rw [hO1, hG1] at h
          unfold qW at h ⊢
          exact h.permL (perm_add (fun g f p0 p1 p2 => by (try simp only [p0, p1, p2]) <;> omega))
        refine vy_ret ?_
        exact ret_i C hr hlocks h (q, (kb3, gro kc tp.length, kg3, tp), (qb8, qc8, qg8, ql8), (pb8, pc8, pg8, pl8), (tb8, tc8, tg8, tl8), G ++ (E3 ++ E8)) (⟨hb9, hqo, hK39, hzQ, hzP, hzT, TR.app⟩) (by rw [hlk, hl1]) rfl (by omega) (by omega) dX1_look_58
