set_option maxRecDepth 100000
def w1 (b : Nat) : Nat := b - (b / 2 &&& 85)
def w2 (b : Nat) : Nat := (w1 b / 1 &&& 51) + (w1 b / 4 &&& 51)
def w3 (b : Nat) : Nat := w2 b % 16 + w2 b / 16
def popB (b : Nat) : Nat := b % 2 + b / 2 % 2 + b / 4 % 2 + b / 8 % 2 + b / 16 % 2 + b / 32 % 2 + b / 64 % 2 + b / 128 % 2
theorem popB_eq {b : Nat} (h : b < 256) : pop b = popB b := by
  unfold popB
  rw [pop_step b, pop_step (b / 2), pop_step (b / 2 / 2), pop_step (b / 2 / 2 / 2), pop_step (b / 2 / 2 / 2 / 2), pop_step (b / 2 / 2 / 2 / 2 / 2), pop_step (b / 2 / 2 / 2 / 2 / 2 / 2), pop_step (b / 2 / 2 / 2 / 2 / 2 / 2 / 2), show b / 2 / 2 / 2 / 2 / 2 / 2 / 2 / 2 = 0 by omega, pop_zero]
  omega
theorem w_all : ∀ b : Nat, b < 256 → (b / 2 &&& 85) ≤ b ∧ w1 b < 256 ∧ w2 b < 256 ∧ w2 b % 16 ≤ 4 ∧ w2 b / 16 ≤ 4 ∧ w3 b = popB b ∧ popB b ≤ 8 := by decide +kernel
theorem H1 : ∀ x : Nat, (x / 2) % 256 &&& 85 = (x % 256) / 2 &&& 85 := by
  have : ∀ y : Nat, y < 512 → (y / 2) % 256 &&& 85 = (y % 256) / 2 &&& 85 := by decide +kernel
  intro x
  have := this (x % 512) (by omega)
  rw [show x % 512 / 2 % 256 = x / 2 % 256 by omega, show x % 512 % 256 = x % 256 by omega] at this
  exact this
theorem H2 : ∀ x : Nat, (x / 4) % 256 &&& 51 = (x % 256) / 4 &&& 51 := by
  have : ∀ y : Nat, y < 1024 → (y / 4) % 256 &&& 51 = (y % 256) / 4 &&& 51 := by decide +kernel
  intro x
  have := this (x % 1024) (by omega)
  rw [show x % 1024 / 4 % 256 = x / 4 % 256 by omega, show x % 1024 % 256 = x % 256 by omega] at this
  exact this
theorem H0 : ∀ x : Nat, (x / 1) % 256 &&& 51 = (x % 256) / 1 &&& 51 := fun x => by rw [Nat.div_one, Nat.div_one]
/-- the first three steps -/
theorem swar3 (k x : Nat) (hx : x < 256 ^ k) : ∃ v1 v2, v1 = x - (x / 2 &&& rep 85 k) ∧ (x / 2 &&& rep 85 k) ≤ x ∧ v2 = (v1 &&& rep 51 k) + (v1 / 4 &&& rep 51 k) ∧ v1 < 256 ^ k ∧ v2 < 256 ^ k ∧ ((v2 + v2 / 16) &&& rep 15 k) = bmap popB k x := by
  have a1 : x / 2 &&& rep 85 k = bmap (fun b => b / 2 &&& 85) k x := mask_run (by decide) (by decide) H1 k x
  have a0 : bmap (fun b => b) k x = x := bmap_id k x hx
  obtain ⟨s1, s2⟩ := bmap_sub (f := fun b => b) (g := fun b => b / 2 &&& 85) (fun b hb => (w_all b hb).1) k x
  rw [a0] at s1 s2
  have e1 : x - (x / 2 &&& rep 85 k) = bmap w1 k x := by rw [a1, s2]; rfl
  have hw1 : ∀ b, b < 256 → w1 b < 256 := fun b hb => (w_all b hb).2.1
  have hw2 : ∀ b, b < 256 → w2 b < 256 := fun b hb => (w_all b hb).2.2.1
  have e2 : (bmap w1 k x &&& rep 51 k) + (bmap w1 k x / 4 &&& rep 51 k) = bmap w2 k x := by
    have b1 := mask_run (s := 1) (c := 51) (by decide) (by decide) H0 k (bmap w1 k x)
    have b2 := mask_run (s := 4) (c := 51) (by decide) (by decide) H2 k (bmap w1 k x)
    rw [Nat.div_one] at b1
    rw [b1, b2, bmap_bmap hw1, bmap_bmap hw1, bmap_add]
    rfl
  refine ⟨_, _, rfl, by rw [a1]; exact s1, rfl, ?_, ?_, ?_⟩
  · rw [e1]; exact bmap_lt hw1 k x
  · rw [e1, e2]; exact bmap_lt hw2 k x
  · rw [e1, e2, (nib_run (f := w2) (fun b hb => ⟨(w_all b hb).2.2.2.1, (w_all b hb).2.2.2.2.1⟩) k x).1]
    exact bmap_congr (fun b hb => (w_all b hb).2.2.2.2.2.1) k x
