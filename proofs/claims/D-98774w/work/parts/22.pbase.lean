/-! PURE LAWS: numbers, the calculus, loops -/
theorem mob_sm {α β : Type} (a : α) (K : α → Option β) : mob (some a) K = K a := id rfl
theorem mo2_sm {α β γ : Type} (a : α) (b : β) (K : α → β → Option γ) : mo2 (some (a, b)) K = K a b := id rfl
theorem mox_r {α β γ : Type} (b : β) (X : α → Option γ) (K : β → Option γ) : mox (some (.inr b)) X K = K b := id rfl
theorem mox_l {α β γ : Type} (a : α) (X : α → Option γ) (K : β → Option γ) : mox (some (.inl a)) X K = X a := id rfl
theorem mjn_e {κ β : Type} (K : κ) (f : κ → β) : mjn K f = f K := id rfl
theorem mlt_e {α β : Type} (a : α) (K : α → β) : mlt a K = K a := id rfl
theorem mck_e {α : Type} {i : Int32} {n : Nat} (K : Option α) (h : vp_in i n) : mck i n K = K := by unfold mck; rw [if_neg h]
theorem mckN {α : Type} {k n : Nat} (K : Option α) (h : k < n) (hn : n < 2 ^ 31) : mck (nI k) n K = K := mck_e K (vp_in_nI h hn)
theorem mnz_e {α : Type} {y : Int32} (K : Option α) (h : ¬ y = 0) : mnz y K = K := by unfold mnz; rw [if_neg h]
theorem mnl_e {α : Type} {y : Int64} (K : Option α) (h : ¬ y = 0) : mnl y K = K := by unfold mnl; rw [if_neg h]
theorem clN {k : Nat} (h : k < 2 ^ 31) : Int32.toNatClampNeg (nI k) = k := nI_clamp h
def nM : Int32 := -1
theorem lm1 : -nI 1 = nM := by decide +kernel
theorem nM_ne {k : Nat} (h : k < 2 ^ 31) : ¬ nI k = nM := by
  intro q
  have h1 := congrArg Int32.toInt q
  rw [nI_toInt h] at h1
  have h2 : nM.toInt = -1 := by decide
  omega
theorem nM_pred (k : Nat) : nI (k + 1) + nM = nI k := pk_m1 k
theorem nM_lt {k : Nat} (h : k < 2 ^ 31) : nM < nI k := by
  rw [Int32.lt_iff_toInt_lt, nI_toInt h, show nM.toInt = -1 from by decide]
  omega
theorem nM_le {k : Nat} (h : k < 2 ^ 31) : ¬ nI k ≤ nM := by
  rw [Int32.le_iff_toInt_le, nI_toInt h, show nM.toInt = -1 from by decide]
  omega
/-- a number of so much at most -/
def isN (x : Int32) (n : Nat) : Prop := ∃ j : Nat, j ≤ n ∧ x = nI j
theorem isN.cl {x : Int32} {n : Nat} (h : isN x n) (hn : n < 2 ^ 31) : x = nI x.toNatClampNeg ∧ x.toNatClampNeg ≤ n := by
  obtain ⟨j, h1, rfl⟩ := h
  rw [clN (by omega)]
  exact ⟨rfl, h1⟩
theorem isN.mono {x : Int32} {n k : Nat} (h : isN x n) (hk : n ≤ k) : isN x k := by
  obtain ⟨j, h1, h2⟩ := h
  exact ⟨j, Nat.le_trans h1 hk, h2⟩
theorem isN_n {j n : Nat} (h : j ≤ n) : isN (nI j) n := ⟨j, h, rfl⟩
theorem isN_of {x : Int32} {n : Nat} (h0 : ¬ x < 0) (h : ¬ nI n < x) (hn : n < 2 ^ 31) : isN x n := by
  obtain ⟨j, hj, rfl⟩ := nI_of h0
  refine ⟨j, ?_, rfl⟩
  exact Nat.le_of_not_lt fun q => h ((nI_ltI hn hj).mpr q)
theorem isN_bz (b : Bool) : isN (bz b) 1 := by
  cases b
  · exact ⟨0, by omega, rfl⟩
  · exact ⟨1, by omega, rfl⟩
theorem bz_eq (b c : Bool) : bz b = bz c ↔ b = c := by cases b <;> cases c <;> decide
theorem bz_one (b : Bool) : bz b = nI 1 ↔ b = true := by cases b <;> decide
theorem bz_dec {x : Int32} (h : isN x 1) : x = bz (decide (x = nI 1)) := by
  obtain ⟨j, hj, rfl⟩ := h
  rcases Nat.lt_or_ge j 1 with q | q
  · have : j = 0 := by omega
    subst this
    rfl
  · have : j = 1 := by omega
    subst this
    rfl
theorem mus_e (x y : Int32) : mus x y = (x.toUInt32 >>> (y.toUInt32 &&& Int32.toUInt32 31)).toInt32 := rfl
theorem mrm_N {a d : Nat} (ha : a < 2 ^ 31) (h0 : 0 < d) (hd : d < 2 ^ 31) : mrm (nI a) (nI d) = nI (a % d) := pk_rem ha h0 hd
theorem divN {a d : Nat} (ha : a < 2 ^ 31) (h0 : 0 < d) (hd : d < 2 ^ 31) : nI a / nI d = nI (a / d) := pk_div ha h0 hd
theorem upd_s {f : Nat → Int32} {k : Nat} {x : Int32} : upd f k x k = x := pk_us
theorem upd_n {f : Nat → Int32} {k j : Nat} {x : Int32} (h : j ≠ k) : upd f k x j = f j := pk_un h
theorem updb_s {f : Nat → Bool} {k : Nat} {x : Bool} : updb f k x k = x := by unfold updb; rw [if_pos rfl]
theorem updb_n {f : Nat → Bool} {k j : Nat} {x : Bool} (h : j ≠ k) : updb f k x j = f j := by unfold updb; rw [if_neg h]
/-! written numbers -/
theorem li0 : (0 : Int32) = nI 0 := by decide +kernel
theorem li1 : (1 : Int32) = nI 1 := by decide +kernel
theorem li2 : (2 : Int32) = nI 2 := by decide +kernel
theorem li3 : (3 : Int32) = nI 3 := by decide +kernel
theorem li4 : (4 : Int32) = nI 4 := by decide +kernel
theorem li5 : (5 : Int32) = nI 5 := by decide +kernel
theorem li6 : (6 : Int32) = nI 6 := by decide +kernel
theorem li7 : (7 : Int32) = nI 7 := by decide +kernel
theorem li8 : (8 : Int32) = nI 8 := by decide +kernel
theorem li9 : (9 : Int32) = nI 9 := by decide +kernel
theorem li10 : (10 : Int32) = nI 10 := by decide +kernel
theorem li11 : (11 : Int32) = nI 11 := by decide +kernel
theorem li12 : (12 : Int32) = nI 12 := by decide +kernel
theorem li13 : (13 : Int32) = nI 13 := by decide +kernel
theorem li14 : (14 : Int32) = nI 14 := by decide +kernel
theorem li15 : (15 : Int32) = nI 15 := by decide +kernel
theorem li16 : (16 : Int32) = nI 16 := by decide +kernel
theorem li20 : (20 : Int32) = nI 20 := by decide +kernel
theorem li24 : (24 : Int32) = nI 24 := by decide +kernel
theorem li26 : (26 : Int32) = nI 26 := by decide +kernel
theorem li30 : (30 : Int32) = nI 30 := by decide +kernel
theorem li31 : (31 : Int32) = nI 31 := by decide +kernel
theorem li32 : (32 : Int32) = nI 32 := by decide +kernel
theorem li40 : (40 : Int32) = nI 40 := by decide +kernel
theorem li41 : (41 : Int32) = nI 41 := by decide +kernel
theorem li43 : (43 : Int32) = nI 43 := by decide +kernel
theorem li48 : (48 : Int32) = nI 48 := by decide +kernel
theorem li50 : (50 : Int32) = nI 50 := by decide +kernel
theorem li52 : (52 : Int32) = nI 52 := by decide +kernel
theorem li57 : (57 : Int32) = nI 57 := by decide +kernel
theorem li59 : (59 : Int32) = nI 59 := by decide +kernel
theorem li60 : (60 : Int32) = nI 60 := by decide +kernel
theorem li62 : (62 : Int32) = nI 62 := by decide +kernel
theorem li64 : (64 : Int32) = nI 64 := by decide +kernel
theorem li65 : (65 : Int32) = nI 65 := by decide +kernel
theorem li66 : (66 : Int32) = nI 66 := by decide +kernel
theorem li67 : (67 : Int32) = nI 67 := by decide +kernel
theorem li97 : (97 : Int32) = nI 97 := by decide +kernel
theorem li99 : (99 : Int32) = nI 99 := by decide +kernel
theorem li100 : (100 : Int32) = nI 100 := by decide +kernel
theorem li122 : (122 : Int32) = nI 122 := by decide +kernel
theorem li236 : (236 : Int32) = nI 236 := by decide +kernel
theorem li239 : (239 : Int32) = nI 239 := by decide +kernel
theorem li240 : (240 : Int32) = nI 240 := by decide +kernel
theorem li255 : (255 : Int32) = nI 255 := by decide +kernel
theorem li254 : (254 : Int32) = nI 254 := by decide +kernel
theorem li256 : (256 : Int32) = nI 256 := by decide +kernel
theorem li304 : (304 : Int32) = nI 304 := by decide +kernel
theorem li400 : (400 : Int32) = nI 400 := by decide +kernel
theorem li703 : (703 : Int32) = nI 703 := by decide +kernel
theorem li704 : (704 : Int32) = nI 704 := by decide +kernel
theorem li999 : (999 : Int32) = nI 999 := by decide +kernel
theorem li1000000 : (1000000 : Int32) = nI 1000000 := by decide +kernel
theorem li2000000000 : (2000000000 : Int32) = nI 2000000000 := by decide +kernel
theorem li3344 : (3344 : Int32) = nI 3344 := by decide +kernel
theorem li3648 : (3648 : Int32) = nI 3648 := by decide +kernel
theorem li9999 : (9999 : Int32) = nI 9999 := by decide +kernel
theorem li10000 : (10000 : Int32) = nI 10000 := by decide +kernel
theorem li32767 : (32767 : Int32) = nI 32767 := by decide +kernel
/-! the lesser and the greater -/
theorem zmx_e (x y : Int32) : zmx x y = if x ≤ y then y else x := by
  unfold zmx
  by_cases h : x < y
  · rw [if_pos h, if_pos (Int32.le_of_lt h)]
  · rw [if_neg h]
    by_cases q : x ≤ y
    · rw [if_pos q]
      exact Int32.le_antisymm (Int32.not_lt.mp h) q |>.symm ▸ rfl
    · rw [if_neg q]
theorem zmn_e (x y : Int32) : zmn x y = if y ≤ x then y else x := by
  unfold zmn
  by_cases h : y < x
  · rw [if_pos h, if_pos (Int32.le_of_lt h)]
  · rw [if_neg h]
    by_cases q : y ≤ x
    · rw [if_pos q]
      exact Int32.le_antisymm (Int32.not_lt.mp h) q
    · rw [if_neg q]
theorem zmnN {a b : Nat} (ha : a < 2 ^ 31) (hb : b < 2 ^ 31) : zmn (nI a) (nI b) = nI (min a b) := by
  unfold zmn
  rw [Nat.min_def]
  by_cases h : b < a
  · rw [if_pos ((nI_ltI hb ha).mpr h), if_neg (by omega)]
  · rw [if_neg (fun q => h ((nI_ltI hb ha).mp q)), if_pos (by omega)]
theorem zmxN {a b : Nat} (ha : a < 2 ^ 31) (hb : b < 2 ^ 31) : zmx (nI a) (nI b) = nI (max a b) := by
  unfold zmx
  rw [Nat.max_def]
  by_cases h : a < b
  · rw [if_pos ((nI_ltI ha hb).mpr h), if_pos (by omega)]
  · rw [if_neg (fun q => h ((nI_ltI ha hb).mp q))]
    by_cases q : a ≤ b
    · rw [if_pos q, show a = b by omega]
    · rw [if_neg q]
/-! what is thrown, by its number -/
theorem bz_f : bz false = nI 0 := by decide +kernel
theorem bz_t : bz true = nI 1 := by decide +kernel
theorem t_le00 : (nI 0 ≤ nI 0) = True := by exact eq_true (by decide +kernel)
theorem t_lt00 : (nI 0 < nI 0) = False := by exact eq_false (by decide +kernel)
theorem t_eq00 : (nI 0 = nI 0) = True := by exact eq_true (by decide +kernel)
theorem t_le10 : (nI 1 ≤ nI 0) = False := by exact eq_false (by decide +kernel)
theorem t_lt10 : (nI 1 < nI 0) = False := by exact eq_false (by decide +kernel)
theorem t_eq10 : (nI 1 = nI 0) = False := by exact eq_false (by decide +kernel)
theorem t_le20 : (nI 2 ≤ nI 0) = False := by exact eq_false (by decide +kernel)
theorem t_lt20 : (nI 2 < nI 0) = False := by exact eq_false (by decide +kernel)
theorem t_eq20 : (nI 2 = nI 0) = False := by exact eq_false (by decide +kernel)
theorem t_le30 : (nI 3 ≤ nI 0) = False := by exact eq_false (by decide +kernel)
theorem t_lt30 : (nI 3 < nI 0) = False := by exact eq_false (by decide +kernel)
theorem t_eq30 : (nI 3 = nI 0) = False := by exact eq_false (by decide +kernel)
theorem t_lt01 : (nI 0 < nI 1) = True := eq_true (by decide +kernel)
theorem t_lt02 : (nI 0 < nI 2) = True := eq_true (by decide +kernel)
theorem t_lt03 : (nI 0 < nI 3) = True := eq_true (by decide +kernel)
theorem mFU_e : ∃ n, mFU = n + 1 := ⟨99999, by decide +kernel⟩
/-! loops -/
def fo {α : Type} (F : Nat → α → α) : Nat → α → α
  | 0, x => x
  | n + 1, x => F n (fo F n x)
theorem loop_f {α γ : Type} (L : Nat → α → Int32 → γ) (F : Nat → α → α) (K : α → γ) (G : Nat) (P : Nat → α → Prop) (hP : ∀ g x, g < G → P g x → P (g + 1) (F g x)) (h0 : ∀ n x, P G x → L (n + 1) x (nI G) = K x) (h1 : ∀ n x g, g < G → P g x → L (n + 1) x (nI g) = L n (F g x) (nI (g + 1))) {n : Nat} (hn : G < n) (x : α) (hx : P 0 x) :
    L n x (nI 0) = K (fo F G x) ∧ P G (fo F G x) := by
  have key : ∀ k n g, g + k = G → k < n → P g (fo F g x) → L n (fo F g x) (nI g) = K (fo F G x) ∧ P G (fo F G x) := by
    intro k
    induction k with
    | zero =>
      intro n g hg hk hp
      obtain ⟨n, rfl⟩ : ∃ n', n = n' + 1 := ⟨n - 1, by omega⟩
      have : g = G := by omega
      subst this
      exact ⟨h0 n _ hp, hp⟩
    | succ k ih =>
      intro n g hg hk hp
      obtain ⟨n, rfl⟩ : ∃ n', n = n' + 1 := ⟨n - 1, by omega⟩
      rw [h1 n _ g (by omega) hp]
      exact ih n (g + 1) (by omega) (by omega) (hP g _ (by omega) hp)
  exact key G n 0 (by omega) hn hx
theorem loop_p {α γ : Type} (L : Nat → α → Int32 → γ) (F : Nat → α → α) (K : α → γ) (G : Nat) (h0 : ∀ n x, L (n + 1) x (nI G) = K x) (h1 : ∀ n x g, g < G → L (n + 1) x (nI g) = L n (F g x) (nI (g + 1))) {n : Nat} (hn : G < n) (x : α) : L n x (nI 0) = K (fo F G x) :=
  (loop_f L F K G (fun _ _ => True) (fun _ _ _ _ => trivial) (fun n x _ => h0 n x) (fun n x g h _ => h1 n x g h) hn x trivial).1
theorem fo_congr {α : Type} {F F' : Nat → α → α} {n : Nat} (h : ∀ g x, g < n → F g x = F' g x) (x : α) : fo F n x = fo F' n x := by
  induction n with
  | zero => rfl
  | succ n ih =>
    show F n (fo F n x) = F' n (fo F' n x)
    rw [ih (fun g x hg => h g x (by omega)), h n _ (by omega)]
theorem fo_inv {α : Type} {F : Nat → α → α} (P : Nat → α → Prop) {n : Nat} (h : ∀ g x, g < n → P g x → P (g + 1) (F g x)) {x : α} (h0 : P 0 x) : P n (fo F n x) := by
  induction n with
  | zero => exact h0
  | succ n ih => exact h n _ (by omega) (ih (fun g x hg => h g x (by omega)))
/-! sets as bits -/
def one (n : Nat) : Int32 := nI 1 <<< (nI n &&& nI 31)
def ob (b : Bool) (n : Nat) : Int32 := if b = true then one n else nI 0
def bs (p : Nat → Bool) (n : Nat) : Int32 := fo (fun g x => x ||| ob (p g) g) n (nI 0)
theorem bt_0 (i : Nat) : bt (nI 0) i = false := b_0 i
theorem bt_one {n i : Nat} (hn : n < 32) : bt (one n) i = decide (n = i) := by
  rcases Nat.lt_or_ge i 32 with h | h
  · exact (by decide +kernel : ∀ n, n < 32 → ∀ i, i < 32 → bt (one n) i = decide (n = i)) n hn i h
  · rw [b_big h, decide_eq_false (by omega)]
theorem bt_ob {b : Bool} {n i : Nat} (hn : n < 32) : bt (ob b n) i = (b && decide (n = i)) := by
  unfold ob
  cases b
  · exact bt_0 i
  · exact bt_one hn
theorem bt_bs {p : Nat → Bool} {n i : Nat} (hn : n ≤ 32) : bt (bs p n) i = (decide (i < n) && p i) := by
  unfold bs
  induction n with
  | zero => simp [fo, bt_0]
  | succ n ih =>
    show bt (fo (fun g x => x ||| ob (p g) g) n (nI 0) ||| ob (p n) n) i = _
    rw [b_or, ih (by omega), bt_ob (by omega)]
    rcases Nat.lt_trichotomy i n with h | h | h
    · have h1 : decide (n = i) = false := decide_eq_false (by omega)
      simp [h, h1, Nat.lt_succ_of_lt h]
    · subst h
      simp
    · have h1 : decide (n = i) = false := decide_eq_false (by omega)
      have h2 : decide (i < n) = false := decide_eq_false (by omega)
      have h3 : decide (i < n + 1) = false := decide_eq_false (by omega)
      simp [h1, h2, h3]
theorem bs_congr {p q : Nat → Bool} {n : Nat} (h : ∀ g, g < n → p g = q g) : bs p n = bs q n := fo_congr (fun g x hg => by rw [h g hg]) _
/-- a set of n things is a number below 2^n -/
theorem isN_bits {x : Int32} {n : Nat} (hn : n ≤ 30) (h : ∀ i, i < 32 → n ≤ i → bt x i = false) : isN x (2 ^ n - 1) := by
  have h1 : x.toBitVec.toNat < 2 ^ n := by
    apply Nat.lt_pow_two_of_testBit
    intro i hi
    rcases Nat.lt_or_ge i 32 with q | q
    · exact h i q hi
    · exact Nat.testBit_lt_two_pow (Nat.lt_of_lt_of_le x.toBitVec.isLt (Nat.pow_le_pow_right (by omega) q))
  refine ⟨x.toBitVec.toNat, by omega, ?_⟩
  apply Int32.toBitVec_inj.mp
  show x.toBitVec = BitVec.ofNat 32 _
  rw [BitVec.ofNat_toNat, BitVec.setWidth_eq]
theorem isN_bs {p : Nat → Bool} {n k : Nat} (hn : n ≤ k) (hk : k ≤ 30) : isN (bs p n) (2 ^ k - 1) :=
  isN_bits hk fun i _ h => by rw [bt_bs (by omega), decide_eq_false (by omega)]; rfl
theorem bt_hi {x : Int32} {n : Nat} (h : isN x (2 ^ n - 1)) (hn : n ≤ 30) {i : Nat} (hi : n ≤ i) : bt x i = false := by
  obtain ⟨j, hj, rfl⟩ := h
  unfold bt
  show (BitVec.ofNat 32 j).getLsbD i = false
  rw [BitVec.getLsbD_ofNat]
  have h2 : j < 2 ^ i := Nat.lt_of_lt_of_le (by have := Nat.two_pow_pos n; omega) (Nat.pow_le_pow_right (by omega) hi)
  rw [Nat.testBit_lt_two_pow h2, Bool.and_false]
/-- the one bit that 'has' asks for -/
theorem has_e (x : Int32) {k : Nat} (hk : k < 31) : ((x >>> (nI k &&& nI 31)) &&& nI 1 = nI 1) ↔ bt x k = true := by
  have e : ∀ i, i < 32 → bt ((x >>> (nI k &&& nI 31)) &&& nI 1) i = (decide (i = 0) && bt x k) := by
    intro i hi
    rw [b_and, show (nI 31) = (31 : Int32) from rfl, b_sshr k (by omega) x hi, show nI 1 = one 0 from by decide, bt_one (by omega)]
    by_cases q : i = 0
    · subst q
      rw [if_pos (by omega)]
      simp
    · have h1 : decide (0 = i) = false := decide_eq_false (by omega)
      rw [h1, decide_eq_false q, Bool.and_false, Bool.false_and]
  constructor
  · intro h
    have h1 := e 0 (by omega)
    rw [h] at h1
    have h2 : bt (nI 1) 0 = true := by decide
    rw [h2] at h1
    simpa using h1.symm
  · intro h
    apply b_ext
    intro i hi
    rw [e i hi, h, show nI 1 = one 0 from by decide, bt_one (by omega)]
    by_cases q : i = 0
    · subst q; rfl
    · rw [decide_eq_false q, decide_eq_false (by omega)]; rfl
