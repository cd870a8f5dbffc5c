set_option maxRecDepth 100000
/-! exceptions of the JDK, made and thrown at once -/
section TH9
variable {p : Program} {l : Launch} {e : Env} {R : Room} {s : State} {m : MethodId} {args : Array Value} {below : List Frame} {meth : Method} {c : Code} {H : Heap} {locs : List Loc} {cells slots : Nat} {cc : ByteArray} {pc : Nat} {ls : Array Slot} {rest : List Value}
variable {SX : Type} {nL : Nat} {own : String} {D : va_G} {dA : Nat → ClassId} {B : Nat} {Z : State → Prop} {d mc ms : Nat} {ws : va_W} {px : SX → Prop} {ax : SX → Nat} {en : SX → String} {wx : SX → va_W}
theorem x_throw0 {Qc : Array Value → State → Outcome → State → Prop} {cls : String} {names : List String} {ik ic : Nat} {lv : List (Nat × Value)} (C : Cx p R s m args c cc nL own D dA B Z d mc ms) (hex : ∀ x ∈ c.exceptionTable.toList, covers x (pc + 7) = false) (hlocks : meth.locks = false) (hlt : l.stackTraces = false) (hzx : ZX B Z) (h : Wd D B s ws H locs) (hl : lv_has ls nL lv) (hcls : Bundle.fit cls = true) (hnames : ∀ n ∈ names, Bundle.fit n = true) (hk : Cond.classLink own ik cls ∈ lw_all) (hini : Cond.initialized cls ∈ lw_all) (hat : ∀ w ∈ vy_at0 own ic cls names, w.before args s = true) (hgood : ∀ w ∈ Cond.classLink own ik cls :: Cond.initialized cls :: vy_at0 own ic cls names, vy_ot w = true) (u : Nat → SX) (he : ∀ q, cls = en (u q)) (hq : ∀ q, q = ax (u q)) (hp : ∀ q, px (u q)) (hw : ∀ q, wx (u q) = ws) (hd : names.length + 3 < d) (hroom : (rest.map fun v => v.category).sum ≤ 8) (hce : cells + 1 ≤ mc) (hsl : slots + 6 ≤ ms)
    (d0 : decode cc pc = .ok (.new ik, 3)) (d3 : decode cc (pc + 3) = .ok (.dup, 1)) (d4 : decode cc (pc + 4) = .ok (.invokespecial ic, 3)) (d7 : decode cc (pc + 7) = .ok (.athrow, 1)) :
    W p l e R s m args below meth c H locs cells slots (vy_MQ below Qc (Xg D dA B Z px ax en wx) args s mc ms (bA B)) (F0 m pc ls rest) := by
  obtain ⟨hx, hb, hml, hown, hts, hK, hN, hz, hZ, hB, hRf, hRl, hRc, hRs⟩ := C
  obtain ⟨hU, hS9⟩ := hzx s hz
  obtain ⟨hP, hD, hS⟩ := h
  refine vy_throw0 (A := bA B) hx hb hlt hown hcls hnames (hts _ hk) (hts _ hini) hat hgood hU hS9 hS (hl.1.trans hml.symm) d0 d3 d4 d7 hex (by rw [hRf]; exact hd) (by rw [hRl]; omega) (by rw [hRc]; exact hce) (by rw [hRs]; exact hsl) hlocks ?_ hS.2.2 hce hsl
  intro q9 t hW hsz hkp
  have hP2 : va_P D vwCl ws t.heap := hP.kept (fun k x hx => hkp x.1 ((hP k x hx).lt))
  refine ⟨⟨u q9, he q9, hq q9, hp q9, ?_⟩, Nat.le_trans hS.1 hsz, fun q h1 h2 => (hkp q (Nat.lt_of_lt_of_le h1 hS.1)).trans (hS.2.1 q h1 h2)⟩
  rw [hw q9]
  exact ⟨hP2, hD, va_K.moved hW.alike hK, hN.warm hW, hZ s t hW (fun q hq => (hkp q (by have := hS.1; omega)).trans (hS.2.1 q (by omega) (Nat.not_le.mpr hq))) hz, Nat.le_trans hB (Nat.le_trans hS.1 hsz)⟩
theorem ex_IAE (C : Cx p R s m args c cc nL own D dA B Z d mc ms) (hzx : ZX B Z) : ∀ w ∈ vy_at0 "SignetRing" 3 "java/lang/IllegalArgumentException" ["java/lang/RuntimeException", "java/lang/Exception"], w.before args s = true := by
  intro w hw
  have hw := (List.mem_filter.mp hw).1
  have h0 := exT C hzx
  obtain ⟨hx, hb, hml, hown, hts, hK, hN, hz, hZ, hB, hRf, hRl, hRc, hRs⟩ := C
  obtain ⟨hU, hS⟩ := hzx s hz
  unfold Bundle.ownAtoms0 at hw
  rcases List.mem_append.mp hw with hw | hw
  · rcases List.mem_append.mp hw with hw | hw
    · exact h0 w hw
    · exact (vx_c (hts _ q1453) (vx_c (hts _ q1454) (vx_c (hts _ q1455) (vx_c (hts _ q665) (vx_c ((hN _ q619 rfl).use rfl) (vx_c (hts _ q665) (vx_c (hts _ q666) (vx_c (hts _ q667) (vx_c (hts _ q668) (vx_c ((hN _ q621 rfl).use rfl) (vx_c (hts _ q668) (vx_c (hts _ q669) (vx_c (hts _ q670) (vx_c (hts _ q639) (vx_c ((hN _ q623 rfl).use rfl) (vx_n))))))))))))))) : ∀ w ∈ Bundle.chain0Atoms "java/lang/IllegalArgumentException" ["java/lang/RuntimeException", "java/lang/Exception"], w.before args s = true) w hw
  · exact (vx_c (hts _ q1452) (vx_c (hts _ q865) (vx_c ((hN _ q866 rfl).use rfl) (vx_c (hts _ q867) (vx_c (hts _ q650) (vx_c (hts _ q868) (vx_c (hts _ q869) (vx_c (hts _ q870) (vx_c (hts _ q871) (vx_c (vy_isRefq (args := args) hU.1) (vx_c (vy_isRefq (args := args) hS.1) (vx_c (hts _ q673) (vx_c (hts _ q636) (vx_c (hts _ q872) (vx_n))))))))))))))) w hw
theorem eg_IAE : ∀ w ∈ Cond.classLink "SignetRing" 1 "java/lang/IllegalArgumentException" :: Cond.initialized "java/lang/IllegalArgumentException" :: vy_at0 "SignetRing" 3 "java/lang/IllegalArgumentException" ["java/lang/RuntimeException", "java/lang/Exception"], vy_ot w = true := List.all_eq_true.mp (by decide +kernel)
theorem ex_IOB (C : Cx p R s m args c cc nL own D dA B Z d mc ms) (hzx : ZX B Z) : ∀ w ∈ vy_at0 "SignetRing" 9 "java/lang/IndexOutOfBoundsException" ["java/lang/RuntimeException", "java/lang/Exception"], w.before args s = true := by
  intro w hw
  have hw := (List.mem_filter.mp hw).1
  have h0 := exT C hzx
  obtain ⟨hx, hb, hml, hown, hts, hK, hN, hz, hZ, hB, hRf, hRl, hRc, hRs⟩ := C
  obtain ⟨hU, hS⟩ := hzx s hz
  unfold Bundle.ownAtoms0 at hw
  rcases List.mem_append.mp hw with hw | hw
  · rcases List.mem_append.mp hw with hw | hw
    · exact h0 w hw
    · exact (vx_c (hts _ q1693) (vx_c (hts _ q1694) (vx_c (hts _ q1695) (vx_c (hts _ q665) (vx_c ((hN _ q619 rfl).use rfl) (vx_c (hts _ q665) (vx_c (hts _ q666) (vx_c (hts _ q667) (vx_c (hts _ q668) (vx_c ((hN _ q621 rfl).use rfl) (vx_c (hts _ q668) (vx_c (hts _ q669) (vx_c (hts _ q670) (vx_c (hts _ q639) (vx_c ((hN _ q623 rfl).use rfl) (vx_n))))))))))))))) : ∀ w ∈ Bundle.chain0Atoms "java/lang/IndexOutOfBoundsException" ["java/lang/RuntimeException", "java/lang/Exception"], w.before args s = true) w hw
  · exact (vx_c (hts _ q1692) (vx_c (hts _ q1684) (vx_c ((hN _ q1685 rfl).use rfl) (vx_c (hts _ q1686) (vx_c (hts _ q652) (vx_c (hts _ q1687) (vx_c (hts _ q1688) (vx_c (hts _ q1689) (vx_c (hts _ q1690) (vx_c (vy_isRefq (args := args) hU.1) (vx_c (vy_isRefq (args := args) hS.1) (vx_c (hts _ q673) (vx_c (hts _ q636) (vx_c (hts _ q1691) (vx_n))))))))))))))) w hw
theorem eg_IOB : ∀ w ∈ Cond.classLink "SignetRing" 7 "java/lang/IndexOutOfBoundsException" :: Cond.initialized "java/lang/IndexOutOfBoundsException" :: vy_at0 "SignetRing" 9 "java/lang/IndexOutOfBoundsException" ["java/lang/RuntimeException", "java/lang/Exception"], vy_ot w = true := List.all_eq_true.mp (by decide +kernel)
theorem ex_ISE (C : Cx p R s m args c cc nL own D dA B Z d mc ms) (hzx : ZX B Z) : ∀ w ∈ vy_at0 "SignetRing" 627 "java/lang/IllegalStateException" ["java/lang/RuntimeException", "java/lang/Exception"], w.before args s = true := by
  intro w hw
  have hw := (List.mem_filter.mp hw).1
  have h0 := exT C hzx
  obtain ⟨hx, hb, hml, hown, hts, hK, hN, hz, hZ, hB, hRf, hRl, hRc, hRs⟩ := C
  obtain ⟨hU, hS⟩ := hzx s hz
  unfold Bundle.ownAtoms0 at hw
  rcases List.mem_append.mp hw with hw | hw
  · rcases List.mem_append.mp hw with hw | hw
    · exact h0 w hw
    · exact (vx_c (hts _ q1738) (vx_c (hts _ q1739) (vx_c (hts _ q1740) (vx_c (hts _ q665) (vx_c ((hN _ q619 rfl).use rfl) (vx_c (hts _ q665) (vx_c (hts _ q666) (vx_c (hts _ q667) (vx_c (hts _ q668) (vx_c ((hN _ q621 rfl).use rfl) (vx_c (hts _ q668) (vx_c (hts _ q669) (vx_c (hts _ q670) (vx_c (hts _ q639) (vx_c ((hN _ q623 rfl).use rfl) (vx_n))))))))))))))) : ∀ w ∈ Bundle.chain0Atoms "java/lang/IllegalStateException" ["java/lang/RuntimeException", "java/lang/Exception"], w.before args s = true) w hw
  · exact (vx_c (hts _ q1737) (vx_c (hts _ q1729) (vx_c ((hN _ q1730 rfl).use rfl) (vx_c (hts _ q1731) (vx_c (hts _ q651) (vx_c (hts _ q1732) (vx_c (hts _ q1733) (vx_c (hts _ q1734) (vx_c (hts _ q1735) (vx_c (vy_isRefq (args := args) hU.1) (vx_c (vy_isRefq (args := args) hS.1) (vx_c (hts _ q673) (vx_c (hts _ q636) (vx_c (hts _ q1736) (vx_n))))))))))))))) w hw
theorem eg_ISE : ∀ w ∈ Cond.classLink "SignetRing" 625 "java/lang/IllegalStateException" :: Cond.initialized "java/lang/IllegalStateException" :: vy_at0 "SignetRing" 627 "java/lang/IllegalStateException" ["java/lang/RuntimeException", "java/lang/Exception"], vy_ot w = true := List.all_eq_true.mp (by decide +kernel)
theorem ex_UOE (C : Cx p R s m args c cc nL own D dA B Z d mc ms) (hzx : ZX B Z) : ∀ w ∈ vy_at0 "SignetRing" 656 "java/lang/UnsupportedOperationException" ["java/lang/RuntimeException", "java/lang/Exception"], w.before args s = true := by
  intro w hw
  have hw := (List.mem_filter.mp hw).1
  have h0 := exT C hzx
  obtain ⟨hx, hb, hml, hown, hts, hK, hN, hz, hZ, hB, hRf, hRl, hRc, hRs⟩ := C
  obtain ⟨hU, hS⟩ := hzx s hz
  unfold Bundle.ownAtoms0 at hw
  rcases List.mem_append.mp hw with hw | hw
  · rcases List.mem_append.mp hw with hw | hw
    · exact h0 w hw
    · exact (vx_c (hts _ q1821) (vx_c (hts _ q1822) (vx_c (hts _ q1823) (vx_c (hts _ q665) (vx_c ((hN _ q619 rfl).use rfl) (vx_c (hts _ q665) (vx_c (hts _ q666) (vx_c (hts _ q667) (vx_c (hts _ q668) (vx_c ((hN _ q621 rfl).use rfl) (vx_c (hts _ q668) (vx_c (hts _ q669) (vx_c (hts _ q670) (vx_c (hts _ q639) (vx_c ((hN _ q623 rfl).use rfl) (vx_n))))))))))))))) : ∀ w ∈ Bundle.chain0Atoms "java/lang/UnsupportedOperationException" ["java/lang/RuntimeException", "java/lang/Exception"], w.before args s = true) w hw
  · exact (vx_c (hts _ q1820) (vx_c (hts _ q1812) (vx_c ((hN _ q1813 rfl).use rfl) (vx_c (hts _ q1814) (vx_c (hts _ q653) (vx_c (hts _ q1815) (vx_c (hts _ q1816) (vx_c (hts _ q1817) (vx_c (hts _ q1818) (vx_c (vy_isRefq (args := args) hU.1) (vx_c (vy_isRefq (args := args) hS.1) (vx_c (hts _ q673) (vx_c (hts _ q636) (vx_c (hts _ q1819) (vx_n))))))))))))))) w hw
theorem eg_UOE : ∀ w ∈ Cond.classLink "SignetRing" 654 "java/lang/UnsupportedOperationException" :: Cond.initialized "java/lang/UnsupportedOperationException" :: vy_at0 "SignetRing" 656 "java/lang/UnsupportedOperationException" ["java/lang/RuntimeException", "java/lang/Exception"], vy_ot w = true := List.all_eq_true.mp (by decide +kernel)
theorem ex_AOB (C : Cx p R s m args c cc nL own D dA B Z d mc ms) (hzx : ZX B Z) : ∀ w ∈ vy_at0 "SignetRing" 659 "java/lang/ArrayIndexOutOfBoundsException" ["java/lang/IndexOutOfBoundsException", "java/lang/RuntimeException", "java/lang/Exception"], w.before args s = true := by
  intro w hw
  have hw := (List.mem_filter.mp hw).1
  have h0 := exT C hzx
  obtain ⟨hx, hb, hml, hown, hts, hK, hN, hz, hZ, hB, hRf, hRl, hRc, hRs⟩ := C
  obtain ⟨hU, hS⟩ := hzx s hz
  unfold Bundle.ownAtoms0 at hw
  rcases List.mem_append.mp hw with hw | hw
  · rcases List.mem_append.mp hw with hw | hw
    · exact h0 w hw
    · exact (vx_c (hts _ q1836) (vx_c (hts _ q1837) (vx_c (hts _ q1838) (vx_c (hts _ q1693) (vx_c ((hN _ q1567 rfl).use rfl) (vx_c (hts _ q1693) (vx_c (hts _ q1694) (vx_c (hts _ q1695) (vx_c (hts _ q665) (vx_c ((hN _ q619 rfl).use rfl) (vx_c (hts _ q665) (vx_c (hts _ q666) (vx_c (hts _ q667) (vx_c (hts _ q668) (vx_c ((hN _ q621 rfl).use rfl) (vx_c (hts _ q668) (vx_c (hts _ q669) (vx_c (hts _ q670) (vx_c (hts _ q639) (vx_c ((hN _ q623 rfl).use rfl) (vx_n)))))))))))))))))))) : ∀ w ∈ Bundle.chain0Atoms "java/lang/ArrayIndexOutOfBoundsException" ["java/lang/IndexOutOfBoundsException", "java/lang/RuntimeException", "java/lang/Exception"], w.before args s = true) w hw
  · exact (vx_c (hts _ q1835) (vx_c (hts _ q1565) (vx_c ((hN _ q1566 rfl).use rfl) (vx_c (hts _ q1569) (vx_c (hts _ q649) (vx_c (hts _ q1570) (vx_c (hts _ q1571) (vx_c (hts _ q1572) (vx_c (hts _ q1573) (vx_c (vy_isRefq (args := args) hU.1) (vx_c (vy_isRefq (args := args) hS.1) (vx_c (hts _ q673) (vx_c (hts _ q636) (vx_c (hts _ q1574) (vx_n))))))))))))))) w hw
theorem eg_AOB : ∀ w ∈ Cond.classLink "SignetRing" 657 "java/lang/ArrayIndexOutOfBoundsException" :: Cond.initialized "java/lang/ArrayIndexOutOfBoundsException" :: vy_at0 "SignetRing" 659 "java/lang/ArrayIndexOutOfBoundsException" ["java/lang/IndexOutOfBoundsException", "java/lang/RuntimeException", "java/lang/Exception"], vy_ot w = true := List.all_eq_true.mp (by decide +kernel)
end TH9
