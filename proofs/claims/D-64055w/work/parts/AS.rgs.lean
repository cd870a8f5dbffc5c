set_option maxRecDepth 100000
theorem SealT.sub {dA : Nat → ClassId} {cx : CX} {G G' : va_W} {x : SL} (h : SealT dA cx G x) (hs : ∀ z ∈ G, z ∈ G') : SealT dA cx G' x := by
  obtain ⟨t, h1, h2⟩ := h
  exact ⟨t, h1.sub (fun b q hq => hs _ hq) (fun a fs hq => hs _ hq), h2⟩
theorem SlT.sub {dA : Nat → ClassId} {cx : CX} {G G' : va_W} {m kb : List Nat} {s : List SL} (h : SlT dA cx G m kb s) (hs : ∀ z ∈ G, z ∈ G') : SlT dA cx G' m kb s := fun y hy => ⟨(h y hy).1.sub hs, (h y hy).2⟩
def KyS (dA : Nat → ClassId) (cx : CX) (G : va_W) (k : KY) : Prop := KyIn dA G k ∧ SlT dA cx G (keyMsg k.2.1.2.1) k.2.1.2.1 k.2.2.1.2 ∧ (∀ u ∈ k.2.2.2.1.2, SlT dA cx G (usM k.2.1.2.1 u.2.1) k.2.1.2.1 u.2.2.2) ∧ ∀ x ∈ k.2.2.2.2.2, SlT dA cx G (ptM k.2.1.2.1 x.2.1.2.1) k.2.1.2.1 x.2.2.2
theorem KyS.sub {dA : Nat → ClassId} {cx : CX} {G G' : va_W} {k : KY} (h : KyS dA cx G k) (hs : ∀ z ∈ G, z ∈ G') : KyS dA cx G' k := ⟨h.1.sub hs, h.2.1.sub hs, fun u hu => (h.2.2.1 u hu).sub hs, fun u hu => (h.2.2.2 u hu).sub hs⟩
def RgS (dA : Nat → ClassId) (cx : CX) (G : va_W) (rl : LD) (R : List KY) : Prop := LsR rl R ∧ ∀ k ∈ R, KyS dA cx G k
theorem RgS.sub {dA : Nat → ClassId} {cx : CX} {G G' : va_W} {rl : LD} {R : List KY} (h : RgS dA cx G rl R) (hs : ∀ z ∈ G, z ∈ G') : RgS dA cx G' rl R := ⟨h.1, fun k hk => (h.2 k hk).sub hs⟩
theorem RgS.num {dA : Nat → ClassId} {cx : CX} {G : va_W} {rl : LD} {R : List KY} (h : RgS dA cx G rl R) : ∀ y ∈ R, NumIn dA G y.2.1 := fun y hy => (h.2 y hy).1.1
theorem set_fst {α : Type} {l : List (Nat × α)} {i : Nat} {x y : Nat × α} (h : l[i]? = some x) (e : y.1 = x.1) : (l.set i y).map Prod.fst = l.map Prod.fst := by
  rw [List.map_set, e]
  exact set_same (by rw [List.getElem?_map, h]; rfl)
theorem LsOk.set {α : Type} {x : LD} {l : List (Nat × α)} {n i : Nat} {y z : Nat × α} (h : LsOk x l n) (hi : l[i]? = some y) (e : z.1 = y.1) : LsOk x (l.set i z) n := ⟨by rw [set_fst hi e]; exact h.1, by rw [List.length_set]; exact h.2.1, by rw [List.length_set]; exact h.2.2⟩
theorem LsR.set {α : Type} {x : LD} {l : List (Nat × α)} {i : Nat} {y z : Nat × α} (h : LsR x l) (hi : l[i]? = some y) (e : z.1 = y.1) : LsR x (l.set i z) := ⟨by rw [set_fst hi e]; exact h.1, trivial, by rw [List.length_set]; exact h.2.2⟩
theorem mem_set {α : Type} {l : List α} {i : Nat} {x y : α} (h : x ∈ l.set i y) : x ∈ l ∨ x = y := List.mem_or_eq_of_mem_set h
theorem RgS.set {dA : Nat → ClassId} {cx : CX} {G : va_W} {rl : LD} {R : List KY} {i : Nat} {k k' : KY} (h : RgS dA cx G rl R) (hi : R[i]? = some k) (e : k'.1 = k.1) (hk : KyS dA cx G k') : RgS dA cx G rl (R.set i k') := ⟨h.1.set hi e, fun y hy => (mem_set hy).elim (h.2 y) (fun q => q ▸ hk)⟩
theorem KyS.num {dA : Nat → ClassId} {cx : CX} {G : va_W} {k : KY} {n' : NBr} (h : KyS dA cx G k) (hn : NumIn dA G n') (e : n'.2.1 = k.2.1.2.1) : KyS dA cx G (k.1, n', k.2.2) := by
  obtain ⟨⟨a1, a2⟩, h2, h3, h4⟩ := h
  unfold KyS
  dsimp only
  rw [e]
  exact ⟨⟨hn, a2⟩, h2, h3, h4⟩
theorem ls0 {α : Type} (a : Nat) (n : Nat) : LsOk (α := α) (a, nI 0, none) [] n := ⟨rfl, Or.inl rfl, Nat.zero_le _⟩
theorem sl0 {dA : Nat → ClassId} {G : va_W} (a : Nat) : SlOk dA G (a, nI 0, none) [] := ⟨rfl, Or.inl rfl, Nat.zero_le _, fun y hy => by cases hy⟩
theorem KyS.new {dA : Nat → ClassId} {cx : CX} {G : va_W} {n : NBr} (hn : NumIn dA G n) (ka a1 a2 a3 : Nat) : KyS dA cx G (newK ka n a1 a2 a3) := ⟨⟨hn, sl0 a1, ls0 a2 8, ls0 a3 8, fun u hu => (by cases hu), fun u hu => (by cases hu)⟩, fun y hy => (by cases hy), fun u hu => (by cases hu), fun u hu => (by cases hu)⟩
theorem mem_snoc {α : Type} {l : List α} {x y : α} (h : x ∈ l ++ [y]) : x ∈ l ∨ x = y := (List.mem_append.mp h).imp id List.mem_singleton.mp
theorem RgS.snoc {dA : Nat → ClassId} {cx : CX} {G : va_W} {rl rl' : LD} {R : List KY} {k' : KY} (h : RgS dA cx G rl R) (hL : LsR rl' (R ++ [k'])) (hk : KyS dA cx G k') : RgS dA cx G rl' (R ++ [k']) := ⟨hL, fun y hy => (mem_snoc hy).elim (h.2 y) (fun q => q ▸ hk)⟩
theorem KyS.us {dA : Nat → ClassId} {cx : CX} {G : va_W} {k : KY} {x : LD} {u : US} {bd : List Nat} (h : KyS dA cx G k) (hL : LsOk x (k.2.2.2.1.2 ++ [u]) 8) (hu : ∃ ua a4, u = (ua, bd, (a4, nI 0, none), [])) (hU : UserIn dA G u.1 bd u.2.2.1.1) : KyS dA cx G (kU k x (k.2.2.2.1.2 ++ [u])) := by
  obtain ⟨⟨a1, a2, a3, a4, a5, a6⟩, h2, h3, h4⟩ := h
  obtain ⟨ua, b4, e⟩ := hu
  refine ⟨⟨a1, a2, hL, a4, fun y hy => ?_, a6⟩, h2, fun y hy => ?_, h4⟩
  · rcases mem_snoc hy with q | q
    · exact a5 y q
    · rw [q]; rw [e] at hU ⊢; exact ⟨hU, sl0 b4⟩
  · rcases mem_snoc hy with q | q
    · exact h3 y q
    · rw [q, e]; exact fun y hy => by cases hy
theorem KyS.pt {dA : Nat → ClassId} {cx : CX} {G : va_W} {k : KY} {x : LD} {n : NBr} {u : PTt} (h : KyS dA cx G k) (hL : LsOk x (k.2.2.2.2.2 ++ [u]) 8) (hu : ∃ ua a4, u = (ua, n, (a4, nI 0, none), [])) (hn : NumIn dA G n) : KyS dA cx G (kP k x (k.2.2.2.2.2 ++ [u])) := by
  obtain ⟨⟨a1, a2, a3, a4, a5, a6⟩, h2, h3, h4⟩ := h
  obtain ⟨ua, b4, e⟩ := hu
  refine ⟨⟨a1, a2, a3, hL, a5, fun y hy => ?_⟩, h2, h3, fun y hy => ?_⟩
  · rcases mem_snoc hy with q | q
    · exact a6 y q
    · rw [q, e]; exact ⟨hn, sl0 b4⟩
  · rcases mem_snoc hy with q | q
    · exact h4 y q
    · rw [q, e]; exact fun y hy => by cases hy
theorem KyS.ptH {dA : Nat → ClassId} {cx : CX} {G : va_W} {k : KY} {n' : NBr} {j : Nat} {y : PTt} (h : KyS dA cx G k) (hj : k.2.2.2.2.2[j]? = some y) (hn : NumIn dA G n') (e : n'.2.1 = y.2.1.2.1) : KyS dA cx G (kP k k.2.2.2.2.1 (k.2.2.2.2.2.set j (y.1, n', y.2.2))) := by
  obtain ⟨⟨a1, a2, a3, a4, a5, a6⟩, h2, h3, h4⟩ := h
  have hy := List.mem_of_getElem? hj
  refine ⟨⟨a1, a2, a3, a4.set hj rfl, a5, fun z hz => ?_⟩, h2, h3, fun z hz => ?_⟩
  · rcases mem_set hz with q | q
    · exact a6 z q
    · rw [q]; exact ⟨hn, (a6 y hy).2⟩
  · rcases mem_set hz with q | q
    · exact h4 z q
    · rw [q]
      show SlT dA cx G (ptM k.2.1.2.1 n'.2.1) k.2.1.2.1 y.2.2.2
      rw [e]; exact h4 y hy
/-! a new seal: its place is told to the context -/
def cxA (cx : CX) (se : Nat) (v : List Nat × List Nat) : CX := fun a => if a = se then v else cx a
theorem cxA_ne {cx : CX} {se a : Nat} {v : List Nat × List Nat} (h : a ≠ se) : cxA cx se v a = cx a := if_neg h
theorem cxA_eq {cx : CX} {se : Nat} {v : List Nat × List Nat} : cxA cx se v se = v := if_pos rfl
theorem SlT.cx {dA : Nat → ClassId} {cx : CX} {G : va_W} {m kb : List Nat} {s : List SL} {se : Nat} {v : List Nat × List Nat} (h : SlT dA cx G m kb s) (hf : ∀ y, (se, y) ∈ G → False) : SlT dA (cxA cx se v) G m kb s := by
  intro y hy
  obtain ⟨h1, h2⟩ := h y hy
  have hne : y.1 ≠ se := by
    intro q
    obtain ⟨fs, hfs⟩ := h1.b.cl
    rw [q] at hfs
    exact hf _ hfs
  obtain ⟨t, h3, h4⟩ := h1
  exact ⟨⟨t, h3, by rw [cxA_ne hne]; exact h4⟩, by rw [cxA_ne hne]; exact h2⟩
theorem KyS.cx {dA : Nat → ClassId} {cx : CX} {G : va_W} {k : KY} {se : Nat} {v : List Nat × List Nat} (h : KyS dA cx G k) (hf : ∀ y, (se, y) ∈ G → False) : KyS dA (cxA cx se v) G k := ⟨h.1, h.2.1.cx hf, fun u hu => (h.2.2.1 u hu).cx hf, fun u hu => (h.2.2.2 u hu).cx hf⟩
theorem RgS.cx {dA : Nat → ClassId} {cx : CX} {G : va_W} {rl : LD} {R : List KY} {se : Nat} {v : List Nat × List Nat} (h : RgS dA cx G rl R) (hf : ∀ y, (se, y) ∈ G → False) : RgS dA (cxA cx se v) G rl R := ⟨h.1, fun k hk => (h.2 k hk).cx hf⟩
theorem SlT.snoc {dA : Nat → ClassId} {cx : CX} {G : va_W} {m kb : List Nat} {s : List SL} {z : SL} (h : SlT dA cx G m kb s) (hz : SealT dA cx G z) (hc : cx z.1 = (m, kb)) : SlT dA cx G m kb (s ++ [z]) := fun y hy => (mem_snoc hy).elim (h y) (fun q => q ▸ ⟨hz, hc⟩)
theorem KyS.addK {dA : Nat → ClassId} {cx : CX} {G : va_W} {k : KY} {x : LD} {z : SL} (h : KyS dA cx G k) (hS : SlOk dA G x (k.2.2.1.2 ++ [z])) (hz : SealT dA cx G z) (hc : cx z.1 = (keyMsg k.2.1.2.1, k.2.1.2.1)) : KyS dA cx G (kS k x (k.2.2.1.2 ++ [z])) := by
  obtain ⟨⟨a1, a2, a3, a4, a5, a6⟩, h2, h3, h4⟩ := h
  exact ⟨⟨a1, hS, a3, a4, a5, a6⟩, h2.snoc hz hc, h3, h4⟩
def uS (u : US) (x : LD) (s : List SL) : US := (u.1, u.2.1, x, s)
def pS (u : PTt) (x : LD) (s : List SL) : PTt := (u.1, u.2.1, x, s)
theorem KyS.addU {dA : Nat → ClassId} {cx : CX} {G : va_W} {k : KY} {x : LD} {z : SL} {j : Nat} {u : US} (h : KyS dA cx G k) (hj : k.2.2.2.1.2[j]? = some u) (hx : x.1 = u.2.2.1.1) (hS : SlOk dA G x (u.2.2.2 ++ [z])) (hz : SealT dA cx G z) (hc : cx z.1 = (usM k.2.1.2.1 u.2.1, k.2.1.2.1)) : KyS dA cx G (kU k k.2.2.2.1.1 (k.2.2.2.1.2.set j (uS u x (u.2.2.2 ++ [z])))) := by
  obtain ⟨⟨a1, a2, a3, a4, a5, a6⟩, h2, h3, h4⟩ := h
  have hy := List.mem_of_getElem? hj
  refine ⟨⟨a1, a2, a3.set hj rfl, a4, fun y hy9 => ?_, a6⟩, h2, fun y hy9 => ?_, h4⟩
  · rcases mem_set hy9 with q | q
    · exact a5 y q
    · rw [q]
      refine ⟨?_, hS⟩
      have h5 := (a5 u hy).1
      unfold uS
      dsimp only
      rw [hx]; exact h5
  · rcases mem_set hy9 with q | q
    · exact h3 y q
    · rw [q]; exact (h3 u hy).snoc hz hc
theorem KyS.addP {dA : Nat → ClassId} {cx : CX} {G : va_W} {k : KY} {x : LD} {z : SL} {j : Nat} {u : PTt} (h : KyS dA cx G k) (hj : k.2.2.2.2.2[j]? = some u) (hS : SlOk dA G x (u.2.2.2 ++ [z])) (hz : SealT dA cx G z) (hc : cx z.1 = (ptM k.2.1.2.1 u.2.1.2.1, k.2.1.2.1)) : KyS dA cx G (kP k k.2.2.2.2.1 (k.2.2.2.2.2.set j (pS u x (u.2.2.2 ++ [z])))) := by
  obtain ⟨⟨a1, a2, a3, a4, a5, a6⟩, h2, h3, h4⟩ := h
  have hy := List.mem_of_getElem? hj
  refine ⟨⟨a1, a2, a3, a4.set hj rfl, a5, fun y hy9 => ?_⟩, h2, h3, fun y hy9 => ?_⟩
  · rcases mem_set hy9 with q | q
    · exact a6 y q
    · rw [q]; exact ⟨(a6 u hy).1, hS⟩
  · rcases mem_set hy9 with q | q
    · exact h4 y q
    · rw [q]; exact (h4 u hy).snoc hz hc
/-! a list of seals brought to the front -/
theorem addK_perm {dA : Nat → ClassId} {e0 : Nat} {rl : LD} {R : List KY} {i : Nat} {k : KY} (hi : R[i]? = some k) : ∃ Y, (ringW dA e0 rl R).Perm (lW dA e0 k.2.2.1.1 k.2.2.1.2.length ++ Y) ∧ ∀ (x : LD) (z : SL), x.1 = k.2.2.1.1.1 → (lW dA e0 x (k.2.2.1.2.length + 1) ++ Y).Perm (ringW dA e0 rl (R.set i (kS k x (k.2.2.1.2 ++ [z])))) := by
  have hlt : i < R.length := (List.getElem?_eq_some_iff.mp hi).1
  refine ⟨[kyc k] ++ (lW dA e0 k.2.2.2.1.1 k.2.2.2.1.2.length ++ (lW dA e0 k.2.2.2.2.1 k.2.2.2.2.2.length ++ (k.2.2.2.1.2.flatMap (usW dA e0) ++ (k.2.2.2.2.2.flatMap (ptW dA e0) ++ ringX dA e0 rl R i)))), (ring_at hi).trans (by rw [kyW_c]; unfold kyR; exact (perm_add (fun g f p0 p1 p2 => by (try simp only [p0, p1, p2]) <;> omega))), fun x z hx => ?_⟩
  refine List.Perm.trans ?_ (ring_set hlt _).symm
  rw [kyW_c]
  have e1 : kyc (kS k x (k.2.2.1.2 ++ [z])) = kyc k := by unfold kyc kS; dsimp only; rw [hx]
  rw [e1]
  show List.Perm _ (([kyc k] ++ ((lW dA e0 x (k.2.2.1.2 ++ [z]).length ++ (lW dA e0 k.2.2.2.1.1 k.2.2.2.1.2.length ++ lW dA e0 k.2.2.2.2.1 k.2.2.2.2.2.length)) ++ (k.2.2.2.1.2.flatMap (usW dA e0) ++ k.2.2.2.2.2.flatMap (ptW dA e0)))) ++ ringX dA e0 rl R i)
  rw [List.length_append]
  show List.Perm _ (([kyc k] ++ ((lW dA e0 x (k.2.2.1.2.length + 1) ++ _) ++ _)) ++ _)
  exact (perm_add (fun g f p0 p1 p2 => by (try simp only [p0, p1, p2]) <;> omega))
theorem addU_perm {dA : Nat → ClassId} {e0 : Nat} {rl : LD} {R : List KY} {i j : Nat} {k : KY} {u : US} (hi : R[i]? = some k) (hj : k.2.2.2.1.2[j]? = some u) : ∃ Y, (ringW dA e0 rl R).Perm (lW dA e0 u.2.2.1 u.2.2.2.length ++ Y) ∧ ∀ (x : LD) (z : SL), (lW dA e0 x (u.2.2.2.length + 1) ++ Y).Perm (ringW dA e0 rl (R.set i (kU k k.2.2.2.1.1 (k.2.2.2.1.2.set j (uS u x (u.2.2.2 ++ [z])))))) := by
  have hlt : i < R.length := (List.getElem?_eq_some_iff.mp hi).1
  have hjt : j < k.2.2.2.1.2.length := (List.getElem?_eq_some_iff.mp hj).1
  refine ⟨[kyc k] ++ (lW dA e0 k.2.2.1.1 k.2.2.1.2.length ++ (lW dA e0 k.2.2.2.1.1 k.2.2.2.1.2.length ++ (lW dA e0 k.2.2.2.2.1 k.2.2.2.2.2.length ++ ((k.2.2.2.1.2.eraseIdx j).flatMap (usW dA e0) ++ (k.2.2.2.2.2.flatMap (ptW dA e0) ++ ringX dA e0 rl R i))))), ?_, fun x z => ?_⟩
  · refine (ring_at hi).trans ?_
    rw [kyW_c]; unfold kyR
    refine List.Perm.trans (((((fm_at (usW dA e0) hj).append_right _).append_left _).append_left _).append_right _) ?_
    show List.Perm ((_ ++ (_ ++ ((lW dA e0 u.2.2.1 u.2.2.2.length ++ _) ++ _))) ++ _) _
    exact (perm_add (fun g f p0 p1 p2 => by (try simp only [p0, p1, p2]) <;> omega))
  · refine List.Perm.trans ?_ (ring_set hlt _).symm
    rw [kyW_c]
    show List.Perm _ (([kyc k] ++ ((lW dA e0 k.2.2.1.1 k.2.2.1.2.length ++ (lW dA e0 k.2.2.2.1.1 (k.2.2.2.1.2.set j (uS u x (u.2.2.2 ++ [z]))).length ++ lW dA e0 k.2.2.2.2.1 k.2.2.2.2.2.length)) ++ ((k.2.2.2.1.2.set j (uS u x (u.2.2.2 ++ [z]))).flatMap (usW dA e0) ++ k.2.2.2.2.2.flatMap (ptW dA e0)))) ++ ringX dA e0 rl R i)
    rw [List.length_set]
    refine List.Perm.trans ?_ (((((fm_set (usW dA e0) hjt (uS u x (u.2.2.2 ++ [z]))).symm.append_right _).append_left _).append_left _).append_right _)
    show List.Perm _ (([kyc k] ++ (_ ++ ((lW dA e0 x (u.2.2.2 ++ [z]).length ++ _) ++ _))) ++ _)
    rw [List.length_append]
    show List.Perm _ (([kyc k] ++ (_ ++ ((lW dA e0 x (u.2.2.2.length + 1) ++ _) ++ _))) ++ _)
    exact (perm_add (fun g f p0 p1 p2 => by (try simp only [p0, p1, p2]) <;> omega))
theorem addP_perm {dA : Nat → ClassId} {e0 : Nat} {rl : LD} {R : List KY} {i j : Nat} {k : KY} {u : PTt} (hi : R[i]? = some k) (hj : k.2.2.2.2.2[j]? = some u) : ∃ Y, (ringW dA e0 rl R).Perm (lW dA e0 u.2.2.1 u.2.2.2.length ++ Y) ∧ ∀ (x : LD) (z : SL), x.1 = u.2.2.1.1 → (lW dA e0 x (u.2.2.2.length + 1) ++ Y).Perm (ringW dA e0 rl (R.set i (kP k k.2.2.2.2.1 (k.2.2.2.2.2.set j (pS u x (u.2.2.2 ++ [z])))))) := by
  have hlt : i < R.length := (List.getElem?_eq_some_iff.mp hi).1
  have hjt : j < k.2.2.2.2.2.length := (List.getElem?_eq_some_iff.mp hj).1
  refine ⟨[kyc k] ++ ([ptc u] ++ (lW dA e0 k.2.2.1.1 k.2.2.1.2.length ++ (lW dA e0 k.2.2.2.1.1 k.2.2.2.1.2.length ++ (lW dA e0 k.2.2.2.2.1 k.2.2.2.2.2.length ++ (k.2.2.2.1.2.flatMap (usW dA e0) ++ ((k.2.2.2.2.2.eraseIdx j).flatMap (ptW dA e0) ++ ringX dA e0 rl R i)))))), ?_, fun x z hx => ?_⟩
  · refine (ring_at hi).trans ?_
    rw [kyW_c]; unfold kyR
    refine List.Perm.trans (((((fm_at (ptW dA e0) hj).append_left _).append_left _).append_left _).append_right _) ?_
    show List.Perm ((_ ++ (_ ++ (_ ++ (([ptc u] ++ lW dA e0 u.2.2.1 u.2.2.2.length) ++ _)))) ++ _) _
    exact (perm_add (fun g f p0 p1 p2 => by (try simp only [p0, p1, p2]) <;> omega))
  · refine List.Perm.trans ?_ (ring_set hlt _).symm
    rw [kyW_c]
    have e1 : ptc (pS u x (u.2.2.2 ++ [z])) = ptc u := by unfold ptc pS; dsimp only; rw [hx]
    show List.Perm _ (([kyc k] ++ ((lW dA e0 k.2.2.1.1 k.2.2.1.2.length ++ (lW dA e0 k.2.2.2.1.1 k.2.2.2.1.2.length ++ lW dA e0 k.2.2.2.2.1 (k.2.2.2.2.2.set j (pS u x (u.2.2.2 ++ [z]))).length)) ++ (k.2.2.2.1.2.flatMap (usW dA e0) ++ (k.2.2.2.2.2.set j (pS u x (u.2.2.2 ++ [z]))).flatMap (ptW dA e0)))) ++ ringX dA e0 rl R i)
    rw [List.length_set]
    refine List.Perm.trans ?_ (((((fm_set (ptW dA e0) hjt (pS u x (u.2.2.2 ++ [z]))).symm.append_left _).append_left _).append_left _).append_right _)
    show List.Perm _ (([kyc k] ++ (_ ++ (_ ++ (([ptc (pS u x (u.2.2.2 ++ [z]))] ++ lW dA e0 x (u.2.2.2 ++ [z]).length) ++ _)))) ++ _)
    rw [List.length_append, e1]
    show List.Perm _ (([kyc k] ++ (_ ++ (_ ++ (([ptc u] ++ lW dA e0 x (u.2.2.2.length + 1)) ++ _)))) ++ _)
    exact (perm_add (fun g f p0 p1 p2 => by (try simp only [p0, p1, p2]) <;> omega))
