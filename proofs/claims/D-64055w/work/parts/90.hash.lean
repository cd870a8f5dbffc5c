set_option maxRecDepth 100000
/-! the hashes, block by block -/
def bwF (gb : Nat → Nat) (k : Nat) : Int32 := nI (num (sl gb (4 * k) 4))
theorem sW1_cg {f g : Nat → Int32} (h : ∀ k, k < 16 → f k = g k) : sW1 f = sW1 g := by
  funext k
  induction k using Nat.strongRecOn with
  | _ k ih =>
    rcases Nat.lt_or_ge k 16 with q | q
    · rw [sW1_lo q, sW1_lo q, h k q]
    · rw [sW1_hi q, sW1_hi q, ih (k - 3) (by omega), ih (k - 8) (by omega), ih (k - 14) (by omega), ih (k - 16) (by omega)]
theorem sW2_cg {f g : Nat → Int32} (h : ∀ k, k < 16 → f k = g k) : sW2 f = sW2 g := by
  funext k
  induction k using Nat.strongRecOn with
  | _ k ih =>
    rcases Nat.lt_or_ge k 16 with q | q
    · rw [sW2_lo q, sW2_lo q, h k q]
    · rw [sW2_hi q, sW2_hi q, ih (k - 16) (by omega), ih (k - 7) (by omega), ih (k - 15) (by omega), ih (k - 2) (by omega)]
theorem blkw_app {a b : List Nat} {i k : Nat} (h : 64 * i + 64 ≤ a.length) (hk : k < 16) : blkw (a ++ b) i k = blkw a i k := by
  unfold blkw
  rw [List.drop_append_of_le_length (by omega), List.take_append_of_le_length (by rw [List.length_drop]; omega)]
theorem hs1_app {a b : List Nat} : ∀ {i : Nat}, 64 * i ≤ a.length → hs1 (a ++ b) i = hs1 a i
  | 0, _ => rfl
  | i + 1, h => by
    unfold hs1
    rw [hs1_app (i := i) (by omega), sW1_cg (fun k hk => blkw_app (b := b) (by omega) hk)]
theorem hs2_app {a b : List Nat} : ∀ {i : Nat}, 64 * i ≤ a.length → hs2 (a ++ b) i = hs2 a i
  | 0, _ => rfl
  | i + 1, h => by
    unfold hs2
    rw [hs2_app (i := i) (by omega), sW2_cg (fun k hk => blkw_app (b := b) (by omega) hk)]
/-- the block holds what of the message is not yet mixed in -/
def Blk (gb : Nat → Nat) (msg : List Nat) : Prop := (∀ j, j < msg.length % 64 → gb j = gD msg (64 * (msg.length / 64) + j)) ∧ ∀ j, j < 64 → gb j < 256
theorem gD_eq {l : List Nat} {j : Nat} : gD l j = (l[j]?).getD 0 := by
  first
    | rfl
    | (unfold gD; rfl)
    | simp [gD]
theorem Blk.full {gb : Nat → Nat} {msg : List Nat} {v : Nat} (h : Blk gb msg) (h1 : (msg.length + 1) % 64 = 0) : ∀ k, k < 16 → bwF (upN gb (msg.length % 64) v) k = blkw (msg ++ [v]) (msg.length / 64) k := by
  intro k hk
  unfold bwF blkw
  congr 2
  apply List.ext_getElem?
  intro i
  rw [List.getElem?_take, List.getElem?_drop]
  rcases Nat.lt_or_ge i 4 with q | q
  · rw [if_pos q]
    have e : (sl (upN gb (msg.length % 64) v) (4 * k) 4)[i]? = some (upN gb (msg.length % 64) v (4 * k + i)) := by
      unfold sl; simp [q]
    rw [e, upN_if]
    by_cases z : 4 * k + i = msg.length % 64
    · rw [if_pos z, List.getElem?_append_right (by omega), show 64 * (msg.length / 64) + 4 * k + i - msg.length = 0 by omega]; rfl
    · rw [if_neg z, h.1 _ (by omega), List.getElem?_append_left (by omega), gD_eq, ← Nat.add_assoc, List.getElem?_eq_getElem (by omega)]; rfl
  · rw [if_neg (by omega), List.getElem?_eq_none (by rw [sl_len]; exact q)]
theorem Blk.put {gb : Nat → Nat} {msg : List Nat} {v : Nat} (h : Blk gb msg) (hv : v < 256) : Blk (upN gb (msg.length % 64) v) (msg ++ [v]) := by
  refine ⟨fun j hj => ?_, fun j hj => ?_⟩
  · rw [List.length_append] at hj ⊢
    have hj : j < (msg.length + 1) % 64 := hj
    show upN gb (msg.length % 64) v j = gD (msg ++ [v]) (64 * ((msg.length + 1) / 64) + j)
    rw [upN_if]
    have e : (msg.length + 1) / 64 = msg.length / 64 := by omega
    rw [e]
    by_cases z : j = msg.length % 64
    · rw [if_pos z, gD_appR (by omega), show 64 * (msg.length / 64) + j - msg.length = 0 by omega]; rfl
    · rw [if_neg z, gD_appL (by omega)]; exact h.1 j (by omega)
  · rw [upN_if]; split
    · exact hv
    · exact h.2 j hj
