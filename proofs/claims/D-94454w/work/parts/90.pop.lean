set_option maxRecDepth 100000
/-! ===== how many bits ===== -/
def pop (x : Nat) : Nat := if h : x = 0 then 0 else x % 2 + pop (x / 2)
termination_by x
decreasing_by omega
theorem pop_zero : pop 0 = 0 := by unfold pop; simp
theorem pop_step (x : Nat) : pop x = x % 2 + pop (x / 2) := by
  by_cases h : x = 0
  · subst h; simp [pop_zero]
  · rw [pop, dif_neg h]
theorem pop_pos {x : Nat} (h : x ≠ 0) : pop x ≠ 0 := by
  induction x using Nat.strongRecOn with
  | _ x ih =>
    rw [pop_step]
    by_cases e : x % 2 = 1
    · omega
    · have := ih (x / 2) (by omega) (by omega)
      omega
theorem and_dbl (a b i j : Nat) (hi : i < 2) (hj : j < 2) : (2 * a + i) &&& (2 * b + j) = 2 * (a &&& b) + (i &&& j) := by
  have e1 : ((2 * a + i) &&& (2 * b + j)) / 2 = a &&& b := by
    have := Nat.and_div_two_pow (a := 2 * a + i) (b := 2 * b + j) (n := 1)
    rw [Nat.pow_one, show (2 * a + i) / 2 = a by omega, show (2 * b + j) / 2 = b by omega] at this
    exact this
  have e2 : ((2 * a + i) &&& (2 * b + j)) % 2 = i &&& j := by
    have := Nat.and_mod_two_pow (a := 2 * a + i) (b := 2 * b + j) (n := 1)
    rw [Nat.pow_one, show (2 * a + i) % 2 = i by omega, show (2 * b + j) % 2 = j by omega] at this
    exact this
  omega
theorem pop_kern {x : Nat} (h : x ≠ 0) : pop (x &&& (x - 1)) + 1 = pop x := by
  induction x using Nat.strongRecOn with
  | _ x ih =>
    by_cases e : x % 2 = 1
    · have : x &&& (x - 1) = 2 * (x / 2) := by
        have := and_dbl (x / 2) (x / 2) 1 0 (by omega) (by omega)
        rw [show 2 * (x / 2) + 1 = x by omega, show 2 * (x / 2) + 0 = x - 1 by omega, Nat.and_self] at this
        simpa using this
      rw [this, pop_step x, pop_step (2 * (x / 2)), show 2 * (x / 2) % 2 = 0 by omega, show 2 * (x / 2) / 2 = x / 2 by omega]
      omega
    · have hx : x / 2 ≠ 0 := by omega
      have : x &&& (x - 1) = 2 * (x / 2 &&& (x / 2 - 1)) := by
        have := and_dbl (x / 2) (x / 2 - 1) 0 1 (by omega) (by omega)
        rw [show 2 * (x / 2) + 0 = x by omega, show 2 * (x / 2 - 1) + 1 = x - 1 by omega] at this
        simpa using this
      have i2 := ih (x / 2) (by omega) hx
      rw [this, pop_step x, pop_step (2 * (x / 2 &&& (x / 2 - 1))), show 2 * (x / 2 &&& (x / 2 - 1)) % 2 = 0 by omega, show 2 * (x / 2 &&& (x / 2 - 1)) / 2 = x / 2 &&& (x / 2 - 1) by omega]
      omega
theorem pop_join : ∀ (k q b : Nat), b < 2 ^ k → pop (2 ^ k * q + b) = pop q + pop b
  | 0, q, b, h => by
    have : b = 0 := by simpa using h
    subst this
    simp [pop_zero]
  | k + 1, q, b, h => by
    have e : 2 ^ (k + 1) * q = 2 * (2 ^ k * q) := by rw [Nat.pow_succ, Nat.mul_comm (2 ^ k) 2, Nat.mul_assoc]
    have h' : b < 2 ^ k * 2 := by rw [← Nat.pow_succ]; exact h
    rw [pop_step, pop_step b, e, show (2 * (2 ^ k * q) + b) % 2 = b % 2 by omega, show (2 * (2 ^ k * q) + b) / 2 = 2 ^ k * q + b / 2 by omega, pop_join k q (b / 2) (by omega)]
    omega
theorem pop_byte (x : Nat) : pop x = pop (x / 256) + pop (x % 256) := by
  have := pop_join 8 (x / 256) (x % 256) (by omega)
  rw [show 2 ^ 8 * (x / 256) + x % 256 = x by omega] at this
  exact this
/-! byte by byte -/
def bmap (f : Nat → Nat) : Nat → Nat → Nat
  | 0, _ => 0
  | k + 1, x => 256 * bmap f k (x / 256) + f (x % 256)
def rep (c : Nat) : Nat → Nat
  | 0 => 0
  | k + 1 => 256 * rep c k + c
theorem bmap_lt {f : Nat → Nat} (hf : ∀ b, b < 256 → f b < 256) : ∀ k x, bmap f k x < 256 ^ k
  | 0, _ => by simp [bmap]
  | k + 1, x => by
    have := bmap_lt hf k (x / 256)
    have h2 := hf (x % 256) (by omega)
    rw [Nat.pow_succ]
    unfold bmap
    omega
theorem bmap_id : ∀ k x, x < 256 ^ k → bmap (fun b => b) k x = x
  | 0, x, h => by
    have : x = 0 := by simpa using h
    subst this; rfl
  | k + 1, x, h => by
    rw [Nat.pow_succ] at h
    unfold bmap
    rw [bmap_id k (x / 256) (by omega)]
    omega
theorem bmap_bmap {f g : Nat → Nat} (hf : ∀ b, b < 256 → f b < 256) : ∀ k x, bmap g k (bmap f k x) = bmap (fun b => g (f b)) k x
  | 0, _ => rfl
  | k + 1, x => by
    have h2 := hf (x % 256) (by omega)
    conv => lhs; unfold bmap
    rw [show bmap f (k + 1) x = 256 * bmap f k (x / 256) + f (x % 256) from rfl, show (256 * bmap f k (x / 256) + f (x % 256)) / 256 = bmap f k (x / 256) by omega, show (256 * bmap f k (x / 256) + f (x % 256)) % 256 = f (x % 256) by omega, bmap_bmap hf k]
    rfl
theorem bmap_sub {f g : Nat → Nat} (hg : ∀ b, b < 256 → g b ≤ f b) : ∀ k x, bmap g k x ≤ bmap f k x ∧ bmap f k x - bmap g k x = bmap (fun b => f b - g b) k x
  | 0, _ => ⟨Nat.le_refl _, rfl⟩
  | k + 1, x => by
    obtain ⟨a, b⟩ := bmap_sub hg k (x / 256)
    have h2 := hg (x % 256) (by omega)
    unfold bmap
    refine ⟨by omega, ?_⟩
    rw [← b]
    omega
theorem bmap_add {f g : Nat → Nat} : ∀ k x, bmap f k x + bmap g k x = bmap (fun b => f b + g b) k x
  | 0, _ => rfl
  | k + 1, x => by
    unfold bmap
    rw [← bmap_add k]
    omega
theorem bmap_congr {f g : Nat → Nat} (h : ∀ b, b < 256 → f b = g b) : ∀ k x, bmap f k x = bmap g k x
  | 0, _ => rfl
  | k + 1, x => by unfold bmap; rw [bmap_congr h k, h _ (by omega)]
theorem and_byte (a b : Nat) : a &&& b = 256 * (a / 256 &&& b / 256) + (a % 256 &&& b % 256) := by
  have e1 := Nat.and_div_two_pow (a := a) (b := b) (n := 8)
  have e2 := Nat.and_mod_two_pow (a := a) (b := b) (n := 8)
  have e3 : (2 : Nat) ^ 8 = 256 := rfl
  rw [e3] at e1 e2
  omega
/-- a shift, and a mask that lets nothing of the next byte through -/
theorem mask_run {s c : Nat} (hc : c < 256) (hs : 0 < s) (H : ∀ x, (x / s) % 256 &&& c = (x % 256) / s &&& c) : ∀ k x, (x / s) &&& rep c k = bmap (fun b => b / s &&& c) k x
  | 0, x => by simp [rep, bmap]
  | k + 1, x => by
    rw [and_byte]
    rw [show rep c (k + 1) = 256 * rep c k + c from rfl, show (256 * rep c k + c) / 256 = rep c k by omega, show (256 * rep c k + c) % 256 = c by omega]
    rw [H, Nat.div_div_eq_div_mul, Nat.mul_comm s 256, ← Nat.div_div_eq_div_mul, mask_run hc hs H k]
    rfl
/-- nibbles are added -/
theorem nib_run {f : Nat → Nat} (hf : ∀ b, b < 256 → f b % 16 ≤ 4 ∧ f b / 16 ≤ 4) : ∀ k x, (bmap f k x + bmap f k x / 16) &&& rep 15 k = bmap (fun b => f b % 16 + f b / 16) k x ∧ bmap f k x % 16 ≤ 4
  | 0, x => by simp [rep, bmap]
  | k + 1, x => by
    obtain ⟨i1, i2⟩ := nib_run hf k (x / 256)
    obtain ⟨h1, h2⟩ := hf (x % 256) (by omega)
    rw [and_byte]
    rw [show rep 15 (k + 1) = 256 * rep 15 k + 15 from rfl, show (256 * rep 15 k + 15) / 256 = rep 15 k by omega, show (256 * rep 15 k + 15) % 256 = 2 ^ 4 - 1 by omega, Nat.and_two_pow_sub_one_eq_mod]
    rw [show bmap f (k + 1) x = 256 * bmap f k (x / 256) + f (x % 256) from rfl]
    rw [show bmap (fun b => f b % 16 + f b / 16) (k + 1) x = 256 * bmap (fun b => f b % 16 + f b / 16) k (x / 256) + (f (x % 256) % 16 + f (x % 256) / 16) from rfl, ← i1]
    generalize bmap f k (x / 256) = v at i2 ⊢
    generalize f (x % 256) = b at h1 h2 ⊢
    rw [show (256 * v + b + (256 * v + b) / 16) / 256 = v + v / 16 by omega, show (256 * v + b + (256 * v + b) / 16) % 256 % 2 ^ 4 = b % 16 + b / 16 by omega]
    exact ⟨rfl, by omega⟩
