/-! PURE LAWS: texts; tokens of both readers -/
def xS (t : Tw) (a f d u : Int32) (m : Nat → Int32) : Tw := (tw_thrown t, m, tw_kept t, tw_hasImage t, tw_aside t, tw_acts t, tw_acted t, tw_tape t, tw_taped t, tw_base t, tw_end_ t, a, f, d, tw_fact t, tw_hasKey t, tw_isEve t, u, tw_here t, tw_hereMany t, tw_fewest t, tw_fits t)
theorem xS_thrown (t : Tw) (a f d u : Int32) (m : Nat → Int32) : tw_thrown (xS t a f d u m) = tw_thrown t := id rfl
theorem xS_m (t : Tw) (a f d u : Int32) (m : Nat → Int32) : tw_m (xS t a f d u m) = m := id rfl
theorem xS_kept (t : Tw) (a f d u : Int32) (m : Nat → Int32) : tw_kept (xS t a f d u m) = tw_kept t := id rfl
theorem xS_hasImage (t : Tw) (a f d u : Int32) (m : Nat → Int32) : tw_hasImage (xS t a f d u m) = tw_hasImage t := id rfl
theorem xS_aside (t : Tw) (a f d u : Int32) (m : Nat → Int32) : tw_aside (xS t a f d u m) = tw_aside t := id rfl
theorem xS_acts (t : Tw) (a f d u : Int32) (m : Nat → Int32) : tw_acts (xS t a f d u m) = tw_acts t := id rfl
theorem xS_acted (t : Tw) (a f d u : Int32) (m : Nat → Int32) : tw_acted (xS t a f d u m) = tw_acted t := id rfl
theorem xS_tape (t : Tw) (a f d u : Int32) (m : Nat → Int32) : tw_tape (xS t a f d u m) = tw_tape t := id rfl
theorem xS_taped (t : Tw) (a f d u : Int32) (m : Nat → Int32) : tw_taped (xS t a f d u m) = tw_taped t := id rfl
theorem xS_base (t : Tw) (a f d u : Int32) (m : Nat → Int32) : tw_base (xS t a f d u m) = tw_base t := id rfl
theorem xS_end_ (t : Tw) (a f d u : Int32) (m : Nat → Int32) : tw_end_ (xS t a f d u m) = tw_end_ t := id rfl
theorem xS_at_ (t : Tw) (a f d u : Int32) (m : Nat → Int32) : tw_at_ (xS t a f d u m) = a := id rfl
theorem xS_fault (t : Tw) (a f d u : Int32) (m : Nat → Int32) : tw_fault (xS t a f d u m) = f := id rfl
theorem xS_deep (t : Tw) (a f d u : Int32) (m : Nat → Int32) : tw_deep (xS t a f d u m) = d := id rfl
theorem xS_fact (t : Tw) (a f d u : Int32) (m : Nat → Int32) : tw_fact (xS t a f d u m) = tw_fact t := id rfl
theorem xS_hasKey (t : Tw) (a f d u : Int32) (m : Nat → Int32) : tw_hasKey (xS t a f d u m) = tw_hasKey t := id rfl
theorem xS_isEve (t : Tw) (a f d u : Int32) (m : Nat → Int32) : tw_isEve (xS t a f d u m) = tw_isEve t := id rfl
theorem xS_turns (t : Tw) (a f d u : Int32) (m : Nat → Int32) : tw_turns (xS t a f d u m) = u := id rfl
theorem xS_here (t : Tw) (a f d u : Int32) (m : Nat → Int32) : tw_here (xS t a f d u m) = tw_here t := id rfl
theorem xS_hereMany (t : Tw) (a f d u : Int32) (m : Nat → Int32) : tw_hereMany (xS t a f d u m) = tw_hereMany t := id rfl
theorem xS_fewest (t : Tw) (a f d u : Int32) (m : Nat → Int32) : tw_fewest (xS t a f d u m) = tw_fewest t := id rfl
theorem xS_fits (t : Tw) (a f d u : Int32) (m : Nat → Int32) : tw_fits (xS t a f d u m) = tw_fits t := id rfl
theorem xSs_at_ (t : Tw) (a f d u : Int32) (m : Nat → Int32) (v : Int32) : tw_s_at_ (xS t a f d u m) v = xS t v f d u m := id rfl
theorem xSs_fault (t : Tw) (a f d u : Int32) (m : Nat → Int32) (v : Int32) : tw_s_fault (xS t a f d u m) v = xS t a v d u m := id rfl
theorem xSs_deep (t : Tw) (a f d u : Int32) (m : Nat → Int32) (v : Int32) : tw_s_deep (xS t a f d u m) v = xS t a f v u m := id rfl
theorem xSs_turns (t : Tw) (a f d u : Int32) (m : Nat → Int32) (v : Int32) : tw_s_turns (xS t a f d u m) v = xS t a f d v m := id rfl
theorem xSs_m (t : Tw) (a f d u : Int32) (m : Nat → Int32) (v : Nat → Int32) : tw_s_m (xS t a f d u m) v = xS t a f d u v := id rfl
theorem xS_self (t : Tw) : xS t (tw_at_ t) (tw_fault t) (tw_deep t) (tw_turns t) (tw_m t) = t := id rfl
def rS (tp : Nat → Int32) (ln : Int32) (e a : Nat) (b f d : Int32) : Rd := (tp, ln, nI e, nI a, b, f, d)
theorem rS_tape (tp : Nat → Int32) (ln : Int32) (e a : Nat) (b f d : Int32) : rd_tape (rS tp ln e a b f d) = tp := id rfl
theorem rS_length (tp : Nat → Int32) (ln : Int32) (e a : Nat) (b f d : Int32) : rd_length (rS tp ln e a b f d) = ln := id rfl
theorem rS_end_ (tp : Nat → Int32) (ln : Int32) (e a : Nat) (b f d : Int32) : rd_end_ (rS tp ln e a b f d) = nI e := id rfl
theorem rS_at_ (tp : Nat → Int32) (ln : Int32) (e a : Nat) (b f d : Int32) : rd_at_ (rS tp ln e a b f d) = nI a := id rfl
theorem rS_begin (tp : Nat → Int32) (ln : Int32) (e a : Nat) (b f d : Int32) : rd_begin (rS tp ln e a b f d) = b := id rfl
theorem rS_fault (tp : Nat → Int32) (ln : Int32) (e a : Nat) (b f d : Int32) : rd_fault (rS tp ln e a b f d) = f := id rfl
theorem rS_deep (tp : Nat → Int32) (ln : Int32) (e a : Nat) (b f d : Int32) : rd_deep (rS tp ln e a b f d) = d := id rfl
theorem rSs_at_ (tp : Nat → Int32) (ln : Int32) (e a : Nat) (b f d : Int32) (v : Nat) : rd_s_at_ (rS tp ln e a b f d) (nI v) = rS tp ln e v b f d := id rfl
theorem rSs_begin (tp : Nat → Int32) (ln : Int32) (e a : Nat) (b f d v : Int32) : rd_s_begin (rS tp ln e a b f d) v = rS tp ln e a v f d := id rfl
theorem rSs_fault (tp : Nat → Int32) (ln : Int32) (e a : Nat) (b f d v : Int32) : rd_s_fault (rS tp ln e a b f d) v = rS tp ln e a b v d := id rfl
theorem rSs_deep (tp : Nat → Int32) (ln : Int32) (e a : Nat) (b f d v : Int32) : rd_s_deep (rS tp ln e a b f d) v = rS tp ln e a b f v := id rfl
/-! the end of a run -/
def rnF (p : Nat → Bool) (e : Nat) : Nat → Nat → Nat
  | 0, a => a
  | n + 1, a => if a < e ∧ p a = true then rnF p e n (a + 1) else a
def rn (p : Nat → Bool) (e a : Nat) : Nat := rnF p e (e - a) a
theorem rn_stop {p : Nat → Bool} {e a : Nat} (h : ¬ (a < e ∧ p a = true)) : rn p e a = a := by
  unfold rn
  cases e - a with
  | zero => rfl
  | succ n => exact if_neg h
theorem rn_go {p : Nat → Bool} {e a : Nat} (h : a < e) (hp : p a = true) : rn p e a = rn p e (a + 1) := by
  unfold rn
  rw [show e - a = (e - (a + 1)) + 1 by omega]
  exact if_pos ⟨h, hp⟩
theorem rn_spec (p : Nat → Bool) (e : Nat) : ∀ (k a : Nat), e - a ≤ k → a ≤ rn p e a ∧ (a ≤ e → rn p e a ≤ e) ∧ (∀ j, a ≤ j → j < rn p e a → p j = true) ∧ (rn p e a < e → p (rn p e a) = false) := by
  intro k
  induction k with
  | zero =>
    intro a ha
    rw [rn_stop (p := p) (e := e) (a := a) (fun h => absurd h.1 (by omega))]
    exact ⟨Nat.le_refl _, fun h => h, fun j h1 h2 => absurd h2 (by omega), fun h => absurd h (by omega)⟩
  | succ k ih =>
    intro a ha
    by_cases h : a < e ∧ p a = true
    · obtain ⟨h1, h2, h3, h4⟩ := ih (a + 1) (by omega)
      rw [rn_go h.1 h.2]
      refine ⟨by omega, fun _ => h2 (by omega), fun j j1 j2 => ?_, h4⟩
      rcases Nat.lt_or_ge a j with q | q
      · exact h3 j q j2
      · rw [show j = a by omega]; exact h.2
    · rw [rn_stop h]
      refine ⟨Nat.le_refl _, fun h => h, fun j h1 h2 => absurd h2 (by omega), fun h1 => ?_⟩
      cases hp : p a
      · rfl
      · exact absurd ⟨h1, hp⟩ h
theorem rn_ge (p : Nat → Bool) (e a : Nat) : a ≤ rn p e a := (rn_spec p e _ a (Nat.le_refl _)).1
theorem rn_le {p : Nat → Bool} {e a : Nat} (h : a ≤ e) : rn p e a ≤ e := (rn_spec p e _ a (Nat.le_refl _)).2.1 h
theorem rn_all {p : Nat → Bool} {e a j : Nat} (h1 : a ≤ j) (h2 : j < rn p e a) : p j = true := (rn_spec p e _ a (Nat.le_refl _)).2.2.1 j h1 h2
theorem rn_end {p : Nat → Bool} {e a : Nat} (h : rn p e a < e) : p (rn p e a) = false := (rn_spec p e _ a (Nat.le_refl _)).2.2.2 h
/-- the rest of a run begun -/
theorem rn_mid {p : Nat → Bool} {e a j : Nat} (h1 : a ≤ j) (h2 : j ≤ rn p e a) (he : a ≤ e) : (j < rn p e a ↔ (j < e ∧ p j = true)) := by
  have h3 := rn_le (p := p) he
  constructor
  · exact fun q => ⟨by omega, rn_all h1 q⟩
  · intro q
    rcases Nat.lt_or_ge j (rn p e a) with w | w
    · exact w
    · have e1 : j = rn p e a := by omega
      have e2 := rn_end (p := p) (e := e) (a := a) (by omega)
      rw [← e1, q.2] at e2
      exact nomatch e2
/-! letters -/
def iB (T : Nat → Int32) (k : Nat) : Bool := decide (T k = nI 32)
def iL (T : Nat → Int32) (k : Nat) : Bool := rin (T k) (nI 97) (nI 122)
def iD (T : Nat → Int32) (k : Nat) : Bool := rin (T k) (nI 48) (nI 57)
theorem sb_lo : ∀ j, j < 128 → sb (nI j) = nI j := by decide +kernel
theorem sb_hi : ∀ j, j < 256 → 128 ≤ j → sb (nI j) < nI 0 := by decide +kernel
theorem rin_iff {x lo hi : Int32} : rin x lo hi = true ↔ ¬ x < lo ∧ ¬ hi < x := by
  unfold rin
  rw [Bool.and_eq_true, Bool.not_eq_true', Bool.not_eq_true', decide_eq_false_iff_not, decide_eq_false_iff_not]
theorem rin_n {j lo hi : Nat} (hj : j < 2 ^ 31) (hl : lo < 2 ^ 31) (hh : hi < 2 ^ 31) : rin (nI j) (nI lo) (nI hi) = true ↔ lo ≤ j ∧ j ≤ hi := by
  rw [rin_iff, nI_ltI hj hl, nI_ltI hh hj]
  omega
theorem sb_neg {x y : Int32} (hx : x < nI 0) {c : Nat} (hc : c ≤ 127) (hy : y = nI c) : x < y := by
  rw [hy, Int32.lt_iff_toInt_lt, nI_toInt (by omega)]
  rw [Int32.lt_iff_toInt_lt, nI_toInt (by omega)] at hx
  omega
theorem sb_eq {x : Int32} (h : isN x 255) {c : Nat} (hc : c ≤ 127) : sb x = nI c ↔ x = nI c := by
  obtain ⟨j, hj, rfl⟩ := h
  rcases Nat.lt_or_ge j 128 with q | q
  · rw [sb_lo j q]
  · have h1 := sb_neg (sb_hi j (by omega) q) hc rfl
    constructor
    · intro h2
      rw [h2] at h1
      exact absurd h1 Int32.lt_irrefl
    · intro h2
      have := (nI_eq (by omega) (by omega)).mp h2
      omega
theorem sb_rin {x : Int32} (h : isN x 255) {lo hi : Nat} (hl : lo ≤ 127) (hh : hi ≤ 127) : rin (sb x) (nI lo) (nI hi) = rin x (nI lo) (nI hi) := by
  obtain ⟨j, hj, rfl⟩ := h
  rcases Nat.lt_or_ge j 128 with q | q
  · rw [sb_lo j q]
  · have h1 := sb_neg (sb_hi j (by omega) q) hl rfl
    rw [Bool.eq_iff_iff, rin_iff, rin_n (by omega) (by omega) (by omega)]
    constructor
    · exact fun h => absurd h1 h.1
    · intro h; omega
theorem sb_in {x : Int32} (h : isN x 255) {lo hi : Nat} (hl : lo ≤ 127) (hh : hi ≤ 127) (hr : rin x (nI lo) (nI hi) = true) : sb x = x := by
  obtain ⟨j, hj, rfl⟩ := h
  have h1 := (rin_n (by omega) (by omega) (by omega)).mp hr
  exact sb_lo j (by omega)
theorem rin_nM {lo hi : Nat} (hl : lo ≤ 127) : rin nM (nI lo) (nI hi) = false := by
  have h : nM < nI lo := nM_lt (by omega)
  unfold rin
  rw [decide_eq_true h]
  rfl
/-- what the component's tape holds of a text -/
def Tc (tp T : Nat → Int32) (e : Nat) : Prop := e ≤ 400 ∧ ∀ k, k < e → isN (T k) 255 ∧ tp k = sb (T k)
/-- and the reference's, on its tape or in the row -/
def Tx (t : Tw) (m T : Nat → Int32) (e : Nat) : Prop := tw_end_ t = nI e ∧ e ≤ 400 ∧ ((tw_base t = nM ∧ ∀ k, k < e → tw_tape t k = T k) ∨ (tw_base t = nI 304 ∧ ∀ k, k < e → m (304 + k) = T k))
def sk (T : Nat → Int32) (e a : Nat) : Nat := rn (iB T) e a
def wz (T : Nat → Int32) (e a : Nat) : Nat := rn (iL T) e (sk T e a)
def dz (T : Nat → Int32) (e a : Nat) : Nat := rn (iD T) e (sk T e a)
def hw (T : Nat → Int32) (s z i : Nat) : Bool := decide (z - s = stL i ∧ ∀ j, j < stL i → T (s + j) = stC i j)
def hs (T : Nat → Int32) (e a i : Nat) : Bool := hw T (sk T e a) (wz T e a) i
def sg (T : Nat → Int32) (e a c : Nat) : Bool := decide (sk T e a < e ∧ T (sk T e a) = nI c)
def fg (T : Nat → Int32) (e a : Nat) : Bool := decide (sk T e a < e ∧ iD T (sk T e a) = true)
def nv (T : Nat → Int32) (s : Nat) : Nat → Int32
  | 0 => nI 0
  | n + 1 => nI 10 * nv T s n + T (s + n) - nI 48
def nOK (T : Nat → Int32) (e : Nat) (lo hi : Int32) (a : Nat) : Bool := decide (sk T e a < dz T e a) && decide (dz T e a ≤ sk T e a + 3) && rin (nv T (sk T e a) (dz T e a - sk T e a)) lo hi
theorem sk_ge (T : Nat → Int32) (e a : Nat) : a ≤ sk T e a := rn_ge _ _ _
theorem sk_le {T : Nat → Int32} {e a : Nat} (h : a ≤ e) : sk T e a ≤ e := rn_le h
theorem wz_ge (T : Nat → Int32) (e a : Nat) : sk T e a ≤ wz T e a := rn_ge _ _ _
theorem wz_le {T : Nat → Int32} {e a : Nat} (h : a ≤ e) : wz T e a ≤ e := rn_le (sk_le h)
theorem dz_ge (T : Nat → Int32) (e a : Nat) : sk T e a ≤ dz T e a := rn_ge _ _ _
theorem dz_le {T : Nat → Int32} {e a : Nat} (h : a ≤ e) : dz T e a ≤ e := rn_le (sk_le h)
theorem sk_sk {T : Nat → Int32} {e a : Nat} : sk T e (sk T e a) = sk T e a := by
  refine rn_stop fun h => ?_
  have := rn_end (p := iB T) (e := e) (a := a) h.1
  exact absurd (h.2.symm.trans this) (by decide)
theorem wz_sk {T : Nat → Int32} {e a : Nat} : wz T e (sk T e a) = wz T e a := by unfold wz; rw [sk_sk]
theorem dz_sk {T : Nat → Int32} {e a : Nat} : dz T e (sk T e a) = dz T e a := by unfold dz; rw [sk_sk]
theorem hs_sk {T : Nat → Int32} {e a i : Nat} : hs T e (sk T e a) i = hs T e a i := by unfold hs; rw [sk_sk, wz_sk]
theorem sg_sk {T : Nat → Int32} {e a c : Nat} : sg T e (sk T e a) c = sg T e a c := by unfold sg; rw [sk_sk]
theorem nOK_sk {T : Nat → Int32} {e : Nat} {lo hi : Int32} {a : Nat} : nOK T e lo hi (sk T e a) = nOK T e lo hi a := by unfold nOK; rw [sk_sk, dz_sk]
theorem stL_pos {i : Nat} (h : i < 24) : 2 ≤ stL i ∧ stL i ≤ 7 := (by decide +kernel : ∀ i, i < 24 → 2 ≤ stL i ∧ stL i ≤ 7) i h
theorem hs_wz {T : Nat → Int32} {e a i : Nat} (h : hs T e a i = true) : wz T e a = sk T e a + stL i := by
  have h1 := (of_decide_eq_true h).1
  have := wz_ge T e a
  omega
/-! the component's tokens -/
section CT
variable {tp T : Nat → Int32} {e a : Nat}
theorem c_byteA (h : Tc tp T e) {ln : Int32} {a : Nat} {b f d : Int32} {k : Nat} (hk : k < e) : fX3_byteAt (rS tp ln e a b f d) (nI k) = some (sb (T k)) := by
  have h400 := h.1
  unfold fX3_byteAt
  simp only [rS_end_, rS_tape]
  rw [if_neg (nI_ge hk (by omega)), mckN _ (by omega) (by omega), clN (by omega), (h.2 k hk).2]
theorem c_byteE {ln : Int32} {a : Nat} {b f d : Int32} {k : Nat} (hk : e ≤ k) (hk2 : k < 2 ^ 31) : fX3_byteAt (rS tp ln e a b f d) (nI k) = some nM := by
  unfold fX3_byteAt
  simp only [rS_end_, rS_tape]
  rw [if_pos ((nI_leI (by omega) hk2).mpr hk)]
  rfl
theorem c_blanksL (h : Tc tp T e) {ln : Int32} {b f d : Int32} (K : Rd → Option Rd) : ∀ (n a : Nat), a ≤ e → e - a < n → fX3_blanks_L0 K n (rS tp ln e a b f d) = K (rS tp ln e (sk T e a) b f d) := by
  have h400 := h.1
  intro n
  induction n with
  | zero => intro a _ h2; exact absurd h2 (by omega)
  | succ n ih =>
    intro a ha hn
    simp only [fX3_blanks_L0, li0, li1, li2, li3, li4, li5, li6, li7, li8, li9, li10, li11, li12, li13, li14, li15, li16, li20, li24, li26, li30, li31, li32, li40, li41, li43, li48, li50, li52, li57, li59, li60, li62, li64, li65, li66, li67, li97, li99, li100, li122, li236, li239, li240, li255, li254, li256, li304, li400, li703, li704, li999, li1000000, li2000000000, li3344, li3648, li9999, li10000, li32767, lm1, rS_at_]
    by_cases q : a < e
    · rw [c_byteA h q, mob_sm]
      by_cases hb : T a = nI 32
      · rw [if_pos ((sb_eq (h.2 a q).1 (by omega)).mpr hb), mlt_e, mlt_e, nI_add, rSs_at_, ih (a + 1) (by omega) (by omega)]
        unfold sk
        rw [rn_go (p := iB T) q (decide_eq_true hb)]
      · rw [if_neg (fun w => hb ((sb_eq (h.2 a q).1 (by omega)).mp w))]
        unfold sk
        rw [rn_stop (p := iB T) (fun w => hb (of_decide_eq_true w.2))]
    · rw [c_byteE (by omega) (by omega), mob_sm, if_neg (fun w => absurd w.symm (nM_ne (k := 32) (by omega)))]
      unfold sk
      rw [rn_stop (p := iB T) (fun w => q w.1)]
theorem c_blanks (h : Tc tp T e) {ln : Int32} {b f d : Int32} (ha : a ≤ e) : fX3_blanks (rS tp ln e a b f d) = some (rS tp ln e (sk T e a) (nI (sk T e a)) f d) := by
  have h400 := h.1
  unfold fX3_blanks
  rw [mjn_e, c_blanksL h _ mFU a ha (by unfold mFU; omega), mlt_e, rS_at_, rSs_begin]
theorem c_isOver (h : Tc tp T e) {ln : Int32} {b f d : Int32} (ha : a ≤ e) : fX3_isOver (rS tp ln e a b f d) = some (decide (sk T e a = e), rS tp ln e (sk T e a) (nI (sk T e a)) f d) := by
  have h400 := h.1
  have hle := sk_le (T := T) ha
  unfold fX3_isOver
  rw [c_blanks h ha, mob_sm, rS_at_, rS_end_]
  by_cases q : sk T e a = e
  · rw [if_pos ((nI_eq (by omega) (by omega)).mpr q), decide_eq_true q]
  · rw [if_neg (fun w => q ((nI_eq (by omega) (by omega)).mp w)), decide_eq_false q]
theorem c_sign (h : Tc tp T e) {ln : Int32} {b f d : Int32} (ha : a ≤ e) {c : Nat} (hc : c ≤ 127) : fX3_sign (rS tp ln e a b f d) (nI c) = some (sg T e a c, rS tp ln e (if sg T e a c = true then sk T e a + 1 else sk T e a) (nI (sk T e a)) f d) := by
  have h400 := h.1
  have hle := sk_le (T := T) ha
  unfold fX3_sign
  simp only [li0, li1, li2, li3, li4, li5, li6, li7, li8, li9, li10, li11, li12, li13, li14, li15, li16, li20, li24, li26, li30, li31, li32, li40, li41, li43, li48, li50, li52, li57, li59, li60, li62, li64, li65, li66, li67, li97, li99, li100, li122, li236, li239, li240, li255, li254, li256, li304, li400, li703, li704, li999, li1000000, li2000000000, li3344, li3648, li9999, li10000, li32767, lm1]
  rw [c_blanks h ha, mob_sm, rS_at_]
  by_cases q : sk T e a < e
  · rw [c_byteA h q, mob_sm]
    by_cases w : T (sk T e a) = nI c
    · have hsg : sg T e a c = true := decide_eq_true ⟨q, w⟩
      rw [if_pos ((sb_eq (h.2 _ q).1 hc).mpr w), mlt_e, mlt_e, nI_add, rSs_at_, hsg, if_pos rfl]
    · have hsg : sg T e a c = false := decide_eq_false (fun y => w y.2)
      rw [if_neg (fun y => w ((sb_eq (h.2 _ q).1 hc).mp y)), hsg, if_neg (by decide)]
  · have hsg : sg T e a c = false := decide_eq_false (fun y => q y.1)
    rw [c_byteE (by omega) (by omega), mob_sm, if_neg (fun y => absurd y.symm (nM_ne (by omega))), hsg, if_neg (by decide)]
theorem c_isFig (h : Tc tp T e) {ln : Int32} {b f d : Int32} (ha : a ≤ e) : fX3_isFigure (rS tp ln e a b f d) = some (fg T e a, rS tp ln e (sk T e a) (nI (sk T e a)) f d) := by
  have h400 := h.1
  have hle := sk_le (T := T) ha
  unfold fX3_isFigure
  simp only [li0, li1, li2, li3, li4, li5, li6, li7, li8, li9, li10, li11, li12, li13, li14, li15, li16, li20, li24, li26, li30, li31, li32, li40, li41, li43, li48, li50, li52, li57, li59, li60, li62, li64, li65, li66, li67, li97, li99, li100, li122, li236, li239, li240, li255, li254, li256, li304, li400, li703, li704, li999, li1000000, li2000000000, li3344, li3648, li9999, li10000, li32767, lm1]
  rw [c_blanks h ha, mob_sm, rS_at_]
  by_cases q : sk T e a < e
  · rw [c_byteA h q, mob_sm, c_in', mob_sm, sb_rin (h.2 _ q).1 (by omega) (by omega)]
    have e1 : fg T e a = rin (T (sk T e a)) (nI 48) (nI 57) := by
      unfold fg
      rw [Bool.eq_iff_iff, decide_eq_true_iff]
      exact ⟨fun y => y.2, fun y => ⟨q, y⟩⟩
    rw [e1]
  · rw [c_byteE (by omega) (by omega), mob_sm, c_in', mob_sm, rin_nM (by omega)]
    have e1 : fg T e a = false := decide_eq_false (fun y => q y.1)
    rw [e1]
theorem c_wordL (h : Tc tp T e) {ln : Int32} {b f d : Int32} : ∀ (n a : Nat), a ≤ e → e - a < n → fX3_wL n (rS tp ln e a b f d) = some (rS tp ln e (rn (iL T) e a) b f d) := by
  have h400 := h.1
  intro n
  induction n with
  | zero => intro a _ h2; exact absurd h2 (by omega)
  | succ n ih =>
    intro a ha hn
    simp only [fX3_wL, li0, li1, li2, li3, li4, li5, li6, li7, li8, li9, li10, li11, li12, li13, li14, li15, li16, li20, li24, li26, li30, li31, li32, li40, li41, li43, li48, li50, li52, li57, li59, li60, li62, li64, li65, li66, li67, li97, li99, li100, li122, li236, li239, li240, li255, li254, li256, li304, li400, li703, li704, li999, li1000000, li2000000000, li3344, li3648, li9999, li10000, li32767, lm1, rS_at_]
    by_cases q : a < e
    · rw [c_byteA h q, mob_sm, c_in', mob_sm, sb_rin (h.2 _ q).1 (by omega) (by omega)]
      cases hb : rin (T a) (nI 97) (nI 122)
      · rw [if_neg (by decide), rn_stop (p := iL T) (fun w => absurd (hb.symm.trans w.2) (by decide))]
      · rw [if_pos rfl, nI_add, rSs_at_, ih (a + 1) (by omega) (by omega), rn_go (p := iL T) q hb]
    · rw [c_byteE (by omega) (by omega), mob_sm, c_in', mob_sm, rin_nM (by omega), if_neg (by decide), rn_stop (p := iL T) (fun w => q w.1)]
theorem c_word (h : Tc tp T e) {ln : Int32} {b f d : Int32} (ha : a ≤ e) : fX3_word (rS tp ln e a b f d) = some (rS tp ln e (wz T e a) (nI (sk T e a)) f d) := by
  have h400 := h.1
  unfold fX3_word
  rw [c_blanks h ha, mob_sm, c_wordL h mFU _ (sk_le ha) (by unfold mFU; omega)]
  rfl
theorem c_wdP (h : Tc tp T e) {ln : Int32} {f d : Int32} (ha : a ≤ e) : ∃ b z : Nat, wdP (rS tp ln e (wz T e a) (nI (sk T e a)) f d) b z := by
  have h400 := h.1
  have h1 := wz_le (T := T) ha
  refine ⟨sk T e a, wz T e a, rfl, rfl, wz_ge T e a, by omega, fun j h2 h3 => ?_⟩
  obtain ⟨h4, h5⟩ := h.2 j (by omega)
  have h6 : rin (T j) (nI 97) (nI 122) = true := rn_all (p := iL T) h2 h3
  have h7 := sb_in h4 (by omega) (by omega) h6
  obtain ⟨c, hc, hT⟩ := h4
  refine ⟨c, by omega, ?_, ?_⟩
  · rw [rS_tape, h5, h7, hT]
  · rw [← hT, ← h7]
    show sb (T j) = sb_b c
    rw [hT]
    rfl
theorem c_mwd (h : Tc tp T e) {α : Type} {ln : Int32} {f d : Int32} (ha : a ≤ e) (K : Option α) : mwd (rS tp ln e (wz T e a) (nI (sk T e a)) f d) K = K := by
  unfold mwd
  exact if_pos (c_wdP h ha)
theorem c_wdIs (h : Tc tp T e) {ln : Int32} {f d : Int32} (ha : a ≤ e) (i : Nat) : wdIs (rS tp ln e (wz T e a) (nI (sk T e a)) f d) i = hs T e a i := by
  have h400 := h.1
  have h1 := wz_le (T := T) ha
  have h2 := wz_ge T e a
  unfold wdIs eqS wdN wdF hs hw
  simp only [rS_at_, rS_begin, rS_tape]
  rw [clN (by omega), clN (by omega)]
  rw [Bool.eq_iff_iff, decide_eq_true_iff, decide_eq_true_iff]
  have h3 : ∀ j, j < wz T e a - sk T e a → tp (sk T e a + j) = T (sk T e a + j) := fun j hj => by
    obtain ⟨h4, h5⟩ := h.2 (sk T e a + j) (by omega)
    rw [h5]
    exact sb_in h4 (by omega) (by omega) (rn_all (p := iL T) (Nat.le_add_right _ _) (show sk T e a + j < wz T e a by omega))
  constructor
  · intro y
    exact ⟨y.1, fun j hj => (h3 j (by omega)).symm.trans (y.2 j (by omega))⟩
  · intro y
    exact ⟨y.1, fun j hj => (h3 j (by omega)).trans (y.2 j (by omega))⟩
theorem c_passes (h : Tc tp T e) {ln : Int32} {b f d : Int32} (ha : a ≤ e) {i : Nat} (hi : i < 24) : fX3_passes (rS tp ln e a b f d) i = some (hs T e a i, rS tp ln e (if hs T e a i = true then wz T e a else sk T e a) (nI (sk T e a)) f d) := by
  unfold fX3_passes
  rw [c_word h ha, mob_sm, c_mwd h ha]
  unfold mst psR
  rw [if_pos (show i < stN from hi), c_wdIs h ha]
  cases hs T e a i
  · rw [if_neg (by decide), if_neg (by decide), rS_begin, rSs_at_]
  · rw [if_pos rfl, if_pos rfl]
theorem c_figL (h : Tc tp T e) {ln : Int32} {f d : Int32} (K : Int32 → Rd → Option ((String × Rd) ⊕ (Int32 × Rd))) {s : Nat} (hs : s ≤ e) : ∀ (n j : Nat), s + j ≤ rn (iD T) e s → e - (s + j) < n → fX3_figures_L7 (nI 3) K n (nv T s (min j 3)) (rS tp ln e (s + j) (nI s) f d) = K (nv T s (min (rn (iD T) e s - s) 3)) (rS tp ln e (rn (iD T) e s) (nI s) f d) := by
  have h400 := h.1
  have hz := rn_le (p := iD T) hs
  intro n
  induction n with
  | zero => intro j _ h2; exact absurd h2 (by omega)
  | succ n ih =>
    intro j hj hn
    have hm := rn_mid (p := iD T) (Nat.le_add_right s j) hj hs
    simp only [fX3_figures_L7, li0, li1, li2, li3, li4, li5, li6, li7, li8, li9, li10, li11, li12, li13, li14, li15, li16, li20, li24, li26, li30, li31, li32, li40, li41, li43, li48, li50, li52, li57, li59, li60, li62, li64, li65, li66, li67, li97, li99, li100, li122, li236, li239, li240, li255, li254, li256, li304, li400, li703, li704, li999, li1000000, li2000000000, li3344, li3648, li9999, li10000, li32767, lm1, rS_at_, rS_begin]
    by_cases q : s + j < rn (iD T) e s
    · obtain ⟨q1, q2⟩ := hm.mp q
      have q3 : rin (T (s + j)) (nI 48) (nI 57) = true := q2
      have q4 := sb_in (h.2 _ q1).1 (by omega) (by omega) q3
      rw [c_byteA h q1, q4, mob_sm, c_in', mob_sm, q3, if_pos rfl, mjn_e, pk_sub (by omega), Nat.add_sub_cancel_left]
      by_cases w : 3 ≤ j
      · rw [if_pos ((nI_leI (by omega) (by omega)).mpr w)]
        simp only [mlt_e, nI_add, rSs_at_]
        have := ih (j + 1) (by omega) (by omega)
        rw [show min (j + 1) 3 = min j 3 by omega] at this
        exact this
      · rw [if_neg (fun y => w ((nI_leI (by omega) (by omega)).mp y)), mob_sm]
        simp only [mlt_e, nI_add, rSs_at_]
        have := ih (j + 1) (by omega) (by omega)
        rw [show min (j + 1) 3 = j + 1 by omega] at this
        rw [show min j 3 = j by omega]
        exact this
    · have e1 : s + j = rn (iD T) e s := by omega
      have q0 : ¬ (s + j < e ∧ iD T (s + j) = true) := fun y => q (hm.mpr y)
      have fin : K (nv T s (min j 3)) (rS tp ln e (s + j) (nI s) f d) = K (nv T s (min (rn (iD T) e s - s) 3)) (rS tp ln e (rn (iD T) e s) (nI s) f d) := by
        rw [← e1, Nat.add_sub_cancel_left]
      by_cases w : s + j < e
      · have q3 : rin (T (s + j)) (nI 48) (nI 57) = false := by
          cases hb : rin (T (s + j)) (nI 48) (nI 57)
          · rfl
          · exact absurd ⟨w, hb⟩ q0
        rw [c_byteA h w, mob_sm, c_in', mob_sm, sb_rin (h.2 _ w).1 (by omega) (by omega), q3, if_neg (by decide)]
        exact fin
      · rw [c_byteE (by omega) (by omega), mob_sm, c_in', mob_sm, rin_nM (by omega), if_neg (by decide)]
        exact fin
theorem c_number (h : Tc tp T e) {ln : Int32} {b f d : Int32} (ha : a ≤ e) (lo hi : Int32) : fX3_number (rS tp ln e a b f d) lo hi = some (if nOK T e lo hi a = true then .inr (nv T (sk T e a) (dz T e a - sk T e a), rS tp ln e (dz T e a) (nI (sk T e a)) f d) else .inl ("SaturdayKeep$Wrong", rS tp ln e (dz T e a) (nI (sk T e a)) f d)) := by
  have h400 := h.1
  have hle := sk_le (T := T) ha
  have h1 := dz_ge T e a
  have h2 := dz_le (T := T) ha
  have key : fX3_figures (rS tp ln e a b f d) lo hi (3 : Int32) = some (if nOK T e lo hi a = true then .inr (nv T (sk T e a) (dz T e a - sk T e a), rS tp ln e (dz T e a) (nI (sk T e a)) f d) else .inl ("SaturdayKeep$Wrong", rS tp ln e (dz T e a) (nI (sk T e a)) f d)) := by
    unfold fX3_figures
    simp only [li0, li1, li2, li3, li4, li5, li6, li7, li8, li9, li10, li11, li12, li13, li14, li15, li16, li20, li24, li26, li30, li31, li32, li40, li41, li43, li48, li50, li52, li57, li59, li60, li62, li64, li65, li66, li67, li97, li99, li100, li122, li236, li239, li240, li255, li254, li256, li304, li400, li703, li704, li999, li1000000, li2000000000, li3344, li3648, li9999, li10000, li32767, lm1]
    rw [c_blanks h ha, mob_sm, mjn_e]
    have hz : dz T e a = rn (iD T) e (sk T e a) := rfl
    have hL := c_figL h (ln := ln) (f := f) (d := d) (fun (x4_4 : Int32) (srd_5 : Rd) => if (rd_at_ srd_5) = (rd_begin srd_5) then some (.inl ("SaturdayKeep$Wrong", srd_5)) else if nI 3 < ((rd_at_ srd_5) - (rd_begin srd_5)) then some (.inl ("SaturdayKeep$Wrong", srd_5)) else mob (fX1_in x4_4 lo hi) fun r_10 => if r_10 = true then some (.inr (x4_4, srd_5)) else some (.inl ("SaturdayKeep$Wrong", srd_5))) hle mFU 0 (by have := rn_ge (iD T) e (sk T e a); omega) (by unfold mFU; omega)
    rw [Nat.add_zero, show min 0 3 = 0 by omega] at hL
    refine hL.trans ?_
    rw [← hz]
    simp only [rS_at_, rS_begin]
    unfold nOK
    by_cases q1 : sk T e a < dz T e a
    · rw [if_neg (fun y => absurd ((nI_eq (by omega) (by omega)).mp y) (by omega)), pk_sub (by omega), decide_eq_true q1]
      by_cases q2 : dz T e a ≤ sk T e a + 3
      · rw [if_neg (fun y => absurd ((nI_ltI (by omega) (by omega)).mp y) (by omega)), decide_eq_true q2, c_in', mob_sm, show min (dz T e a - sk T e a) 3 = dz T e a - sk T e a by omega]
        cases rin (nv T (sk T e a) (dz T e a - sk T e a)) lo hi <;> rfl
      · rw [if_pos ((nI_ltI (by omega) (by omega)).mpr (by omega)), decide_eq_false q2]
        rfl
    · have e1 : dz T e a = sk T e a := by omega
      rw [if_pos ((nI_eq (by omega) (by omega)).mpr e1), decide_eq_false q1]
      rfl
  unfold fX3_number
  rw [key]
  cases nOK T e lo hi a <;> rfl
end CT
/-! the reference's tokens -/
section XT
variable {t : Tw} {m T : Nat → Int32} {e a : Nat} {f d u : Int32}
theorem Tx.e4 (h : Tx t m T e) : e ≤ 400 := h.2.1
theorem x_letter (h : Tx t m T e) {a' f d u : Int32} {k : Nat} (hk : k < e) : fX6_letter (xS t a' f d u m) (nI k) = some (T k) := by
  obtain ⟨h1, h2, h3⟩ := h
  unfold fX6_letter
  simp only [li0, li1, li2, li3, li4, li5, li6, li7, li8, li9, li10, li11, li12, li13, li14, li15, li16, li20, li24, li26, li30, li31, li32, li40, li41, li43, li48, li50, li52, li57, li59, li60, li62, li64, li65, li66, li67, li97, li99, li100, li122, li236, li239, li240, li255, li254, li256, li304, li400, li703, li704, li999, li1000000, li2000000000, li3344, li3648, li9999, li10000, li32767, lm1, xS_thrown, xS_m, xS_kept, xS_hasImage, xS_aside, xS_acts, xS_acted, xS_tape, xS_taped, xS_base, xS_end_, xS_at_, xS_fault, xS_deep, xS_fact, xS_hasKey, xS_isEve, xS_turns, xS_here, xS_hereMany, xS_fewest, xS_fits, xSs_at_, xSs_fault, xSs_deep, xSs_turns, xSs_m]
  rcases h3 with ⟨h4, h5⟩ | ⟨h4, h5⟩
  · rw [if_pos h4, mckN _ (by omega) (by omega), clN (by omega), h5 k hk]
  · rw [h4, if_neg (nM_ne (by omega)), nI_add, mckN _ (by omega) (by omega), clN (by omega), h5 k hk]
theorem x_skipL (h : Tx t m T e) : ∀ (n a : Nat), a ≤ e → e - a < n → fX6_skip_L0 n (xS t (nI a) f d u m) = some (xS t (nI (sk T e a)) f d u m) := by
  have h400 := h.2.1
  intro n
  induction n with
  | zero => intro a _ h2; exact absurd h2 (by omega)
  | succ n ih =>
    intro a ha hn
    simp only [fX6_skip_L0, li0, li1, li2, li3, li4, li5, li6, li7, li8, li9, li10, li11, li12, li13, li14, li15, li16, li20, li24, li26, li30, li31, li32, li40, li41, li43, li48, li50, li52, li57, li59, li60, li62, li64, li65, li66, li67, li97, li99, li100, li122, li236, li239, li240, li255, li254, li256, li304, li400, li703, li704, li999, li1000000, li2000000000, li3344, li3648, li9999, li10000, li32767, lm1, xS_at_, xS_end_, h.1]
    unfold sk
    by_cases q : a < e
    · rw [if_neg (nI_ge q (by omega)), x_letter h q, mob_sm]
      by_cases hb : T a = nI 32
      · rw [if_pos hb, mlt_e, nI_add, xSs_at_, ih (a + 1) (by omega) (by omega), rn_go (p := iB T) q (decide_eq_true hb)]
        rfl
      · rw [if_neg hb, rn_stop (p := iB T) (fun w => hb (of_decide_eq_true w.2))]
    · rw [if_pos ((nI_leI (by omega) (by omega)).mpr (by omega)), rn_stop (p := iB T) (fun w => q w.1)]
theorem x_skip (h : Tx t m T e) (ha : a ≤ e) : fX6_skip (xS t (nI a) f d u m) = some (xS t (nI (sk T e a)) f d u m) := x_skipL h mFU a ha (by have := h.2.1; unfold mFU; omega)
theorem x_place (h : Tx t m T e) (ha : a ≤ e) : fX6_place (xS t (nI a) f d u m) = some (nI (sk T e a), xS t (nI (sk T e a)) f d u m) := by
  unfold fX6_place
  rw [x_skip h ha, mob_sm, xS_at_]
theorem x_isSign (h : Tx t m T e) (ha : a ≤ e) {c : Nat} : fX6_isSign (xS t (nI a) f d u m) (nI c) = some (sg T e a c, xS t (nI (sk T e a)) f d u m) := by
  have h400 := h.2.1
  have hle := sk_le (T := T) ha
  unfold fX6_isSign
  rw [x_skip h ha, mob_sm, xS_at_, xS_end_, h.1]
  by_cases q : sk T e a < e
  · rw [if_neg (nI_ge q (by omega)), x_letter h q, mob_sm]
    by_cases w : T (sk T e a) = nI c
    · rw [if_pos w, show sg T e a c = true from decide_eq_true ⟨q, w⟩]
    · rw [if_neg w, show sg T e a c = false from decide_eq_false (fun y => w y.2)]
  · rw [if_pos ((nI_leI (by omega) (by omega)).mpr (by omega)), show sg T e a c = false from decide_eq_false (fun y => q y.1)]
theorem x_hasL9 (h : Tx t m T e) {a' : Int32} (K : Int32 → Option (Bool × Tw)) : ∀ (n a : Nat), a ≤ e → e - a < n → fX6_has_L9 (xS t a' f d u m) K n (nI a) = K (nI (rn (iL T) e a)) := by
  have h400 := h.2.1
  intro n
  induction n with
  | zero => intro a _ h2; exact absurd h2 (by omega)
  | succ n ih =>
    intro a ha hn
    simp only [fX6_has_L9, li0, li1, li2, li3, li4, li5, li6, li7, li8, li9, li10, li11, li12, li13, li14, li15, li16, li20, li24, li26, li30, li31, li32, li40, li41, li43, li48, li50, li52, li57, li59, li60, li62, li64, li65, li66, li67, li97, li99, li100, li122, li236, li239, li240, li255, li254, li256, li304, li400, li703, li704, li999, li1000000, li2000000000, li3344, li3648, li9999, li10000, li32767, lm1, xS_at_, xS_end_, h.1]
    by_cases q : a < e
    · rw [if_neg (nI_ge q (by omega)), x_letter h q, mob_sm, x_in, mob_sm]
      cases hb : rin (T a) (nI 97) (nI 122)
      · rw [if_neg (by decide), rn_stop (p := iL T) (fun w => absurd (hb.symm.trans w.2) (by decide))]
      · rw [if_pos rfl, nI_add, ih (a + 1) (by omega) (by omega), rn_go (p := iL T) q hb]
    · rw [if_pos ((nI_leI (by omega) (by omega)).mpr (by omega)), rn_stop (p := iL T) (fun w => q w.1)]
theorem x_hasL55 (h : Tx t m T e) {s : Nat} {i : Nat} (hi : i < 24) (hs : s + stL i ≤ e) (K : Option (Bool × Tw)) : ∀ (n j : Nat), j ≤ stL i → stL i - j < n → fX6_has_L55 i K (xS t (nI s) f d u m) n (nI j) = if (∀ k, k < stL i → j ≤ k → T (s + k) = stC i k) then K else some (false, xS t (nI s) f d u m) := by
  have h400 := h.2.1
  obtain ⟨l1, l2⟩ := stL_pos hi
  intro n
  induction n with
  | zero => intro a _ h2; exact absurd h2 (by omega)
  | succ n ih =>
    intro j hj hn
    simp only [fX6_has_L55, li0, li1, li2, li3, li4, li5, li6, li7, li8, li9, li10, li11, li12, li13, li14, li15, li16, li20, li24, li26, li30, li31, li32, li40, li41, li43, li48, li50, li52, li57, li59, li60, li62, li64, li65, li66, li67, li97, li99, li100, li122, li236, li239, li240, li255, li254, li256, li304, li400, li703, li704, li999, li1000000, li2000000000, li3344, li3648, li9999, li10000, li32767, lm1, xS_at_, xS_end_]
    unfold mst
    rw [if_pos (show i < stN from hi)]
    by_cases q : j < stL i
    · rw [if_neg (nI_ge q (by omega)), nI_add, x_letter h (by omega), mob_sm, if_pos (show i < stN from hi), mckN _ q (by omega), clN (by omega)]
      by_cases w : T (s + j) = stC i j
      · rw [if_pos w, nI_add, ih (j + 1) (by omega) (by omega)]
        by_cases y : ∀ k, k < stL i → j + 1 ≤ k → T (s + k) = stC i k
        · rw [if_pos y, if_pos]
          intro k k2 k1
          rcases Nat.lt_or_ge j k with z | z
          · exact y k k2 z
          · rw [show k = j by omega]; exact w
        · rw [if_neg y, if_neg]
          exact fun z => y (fun k k2 k1 => z k k2 (by omega))
      · rw [if_neg w, if_neg]
        exact fun z => w (z j q (Nat.le_refl _))
    · rw [if_pos ((nI_leI (by omega) (by omega)).mpr (by omega)), if_pos]
      exact fun k k2 k1 => absurd k2 (by omega)
theorem x_has (h : Tx t m T e) (ha : a ≤ e) {i : Nat} (hi : i < 24) : fX6_has (xS t (nI a) f d u m) i = some (hs T e a i, xS t (nI (if hs T e a i = true then wz T e a else sk T e a)) f d u m) := by
  have h400 := h.2.1
  obtain ⟨l1, l2⟩ := stL_pos hi
  have hle := sk_le (T := T) ha
  have h1 := wz_ge T e a
  have h2 := wz_le (T := T) ha
  unfold fX6_has
  simp only [li0, li1, li2, li3, li4, li5, li6, li7, li8, li9, li10, li11, li12, li13, li14, li15, li16, li20, li24, li26, li30, li31, li32, li40, li41, li43, li48, li50, li52, li57, li59, li60, li62, li64, li65, li66, li67, li97, li99, li100, li122, li236, li239, li240, li255, li254, li256, li304, li400, li703, li704, li999, li1000000, li2000000000, li3344, li3648, li9999, li10000, li32767, lm1]
  rw [x_skip h ha, mob_sm, mjn_e, xS_at_, x_hasL9 h _ mFU _ hle (by unfold mFU; omega)]
  have hz : rn (iL T) e (sk T e a) = wz T e a := rfl
  rw [hz]
  unfold mst
  rw [if_pos (show i < stN from hi), pk_sub h1]
  by_cases q : wz T e a - sk T e a = stL i
  · rw [if_pos ((nI_eq (by omega) (by omega)).mpr q), mjn_e, x_hasL55 h hi (by omega) _ mFU 0 (by omega) (by unfold mFU; omega)]
    by_cases w : ∀ k, k < stL i → T (sk T e a + k) = stC i k
    · have hh : hs T e a i = true := decide_eq_true ⟨q, w⟩
      rw [if_pos (fun k k2 _ => w k k2), mlt_e, xSs_at_, hh, if_pos rfl]
    · have hh : hs T e a i = false := decide_eq_false (fun y => w y.2)
      rw [if_neg (fun y => w (fun k k2 => y k k2 (Nat.zero_le _))), hh, if_neg (by decide)]
  · have hh : hs T e a i = false := decide_eq_false (fun y => q y.1)
    rw [if_neg (fun y => q ((nI_eq (by omega) (by omega)).mp y)), hh, if_neg (by decide)]
theorem x_wrong (t : Tw) (a f d u : Int32) (m : Nat → Int32) (p : Int32) : fX6_wrong (xS t a f d u m) p = some (xS t a (if f = nM then p else f) d u m) := by
  unfold fX6_wrong
  simp only [li0, li1, li2, li3, li4, li5, li6, li7, li8, li9, li10, li11, li12, li13, li14, li15, li16, li20, li24, li26, li30, li31, li32, li40, li41, li43, li48, li50, li52, li57, li59, li60, li62, li64, li65, li66, li67, li97, li99, li100, li122, li236, li239, li240, li255, li254, li256, li304, li400, li703, li704, li999, li1000000, li2000000000, li3344, li3648, li9999, li10000, li32767, lm1, xS_fault, xSs_fault]
  by_cases q : f = nM
  · rw [if_pos q, mlt_e, if_pos q]
  · rw [if_neg q, if_neg q]
theorem x_figL (h : Tx t m T e) (K : Int32 → Tw → Option (Int32 × Tw)) {s : Nat} (hs : s ≤ e) : ∀ (n j : Nat), s + j ≤ rn (iD T) e s → j ≤ 4 → 4 - j < n → fX6_figures_L18 K (nI s) n (nv T s j) (xS t (nI (s + j)) f d u m) = K (nv T s (min (rn (iD T) e s - s) 4)) (xS t (nI (min (rn (iD T) e s) (s + 4))) f d u m) := by
  have h400 := h.2.1
  have hz := rn_le (p := iD T) hs
  intro n
  induction n with
  | zero => intro j _ _ h2; exact absurd h2 (by omega)
  | succ n ih =>
    intro j hj h4 hn
    have hm := rn_mid (p := iD T) (Nat.le_add_right s j) hj hs
    simp only [fX6_figures_L18, li0, li1, li2, li3, li4, li5, li6, li7, li8, li9, li10, li11, li12, li13, li14, li15, li16, li20, li24, li26, li30, li31, li32, li40, li41, li43, li48, li50, li52, li57, li59, li60, li62, li64, li65, li66, li67, li97, li99, li100, li122, li236, li239, li240, li255, li254, li256, li304, li400, li703, li704, li999, li1000000, li2000000000, li3344, li3648, li9999, li10000, li32767, lm1, xS_at_, xS_end_, h.1]
    by_cases q : s + j < rn (iD T) e s
    · obtain ⟨q1, q2⟩ := hm.mp q
      have q3 : rin (T (s + j)) (nI 48) (nI 57) = true := q2
      rw [if_neg (nI_ge q1 (by omega)), x_letter h q1, mob_sm, x_in, mob_sm, q3, if_pos rfl, pk_sub (by omega), Nat.add_sub_cancel_left]
      by_cases w : j = 4
      · subst w
        rw [if_pos ((nI_ltI (by omega) (by omega)).mpr (by omega)), show min (rn (iD T) e s - s) 4 = 4 by omega, show min (rn (iD T) e s) (s + 4) = s + 4 by omega]
      · rw [if_neg (fun y => absurd ((nI_ltI (by omega) (by omega)).mp y) (by omega)), mob_sm, mlt_e, nI_add, xSs_at_]
        exact ih (j + 1) (by omega) (by omega) (by omega)
    · have e1 : s + j = rn (iD T) e s := by omega
      have q0 : ¬ (s + j < e ∧ iD T (s + j) = true) := fun y => q (hm.mpr y)
      have fin : K (nv T s j) (xS t (nI (s + j)) f d u m) = K (nv T s (min (rn (iD T) e s - s) 4)) (xS t (nI (min (rn (iD T) e s) (s + 4))) f d u m) := by
        rw [← e1, Nat.add_sub_cancel_left, show min j 4 = j by omega, show min (s + j) (s + 4) = s + j by omega]
      by_cases w : s + j < e
      · have q3 : rin (T (s + j)) (nI 48) (nI 57) = false := by
          cases hb : rin (T (s + j)) (nI 48) (nI 57)
          · rfl
          · exact absurd ⟨w, hb⟩ q0
        rw [if_neg (nI_ge w (by omega)), x_letter h w, mob_sm, x_in, mob_sm, q3, if_neg (by decide)]
        exact fin
      · rw [if_pos ((nI_leI (by omega) (by omega)).mpr (by omega))]
        exact fin
/-- a number is read -/
theorem x_figs (h : Tx t m T e) (ha : a ≤ e) (lo hi : Int32) : ∃ (v : Int32) (a' : Int32), fX6_figures (xS t (nI a) nM d u m) lo hi = some (if nOK T e lo hi a = true then (nv T (sk T e a) (dz T e a - sk T e a), xS t (nI (dz T e a)) nM d u m) else (v, xS t a' (nI (sk T e a)) d u m)) := by
  have h400 := h.2.1
  have hle := sk_le (T := T) ha
  have h1 := dz_ge T e a
  have h2 := dz_le (T := T) ha
  have hz : rn (iD T) e (sk T e a) = dz T e a := rfl
  unfold fX6_figures
  simp only [li0, li1, li2, li3, li4, li5, li6, li7, li8, li9, li10, li11, li12, li13, li14, li15, li16, li20, li24, li26, li30, li31, li32, li40, li41, li43, li48, li50, li52, li57, li59, li60, li62, li64, li65, li66, li67, li97, li99, li100, li122, li236, li239, li240, li255, li254, li256, li304, li400, li703, li704, li999, li1000000, li2000000000, li3344, li3648, li9999, li10000, li32767, lm1, xS_fault]
  rw [if_pos trivial, x_place h ha, mo2_sm, mjn_e]
  have hL := x_figL h (f := nM) (d := d) (u := u) (fun (x4_6 : Int32) (t_7 : Tw) => if (tw_at_ t_7) = nI (sk T e a) then mob (fX6_wrong t_7 (nI (sk T e a))) fun t_11 => some (x4_6, t_11) else if nI 3 < ((tw_at_ t_7) - nI (sk T e a)) then mob (fX6_wrong t_7 (nI (sk T e a))) fun t_14 => some (x4_6, t_14) else if x4_6 < lo then mob (fX6_wrong t_7 (nI (sk T e a))) fun t_17 => some (x4_6, t_17) else if x4_6 ≤ hi then some (x4_6, t_7) else mob (fX6_wrong t_7 (nI (sk T e a))) fun t_20 => some (x4_6, t_20)) hle mFU 0 (by omega) (by omega) (by unfold mFU; omega)
  rw [Nat.add_zero] at hL
  have hK : ∀ r, fX6_figures_L18 (fun (x4_6 : Int32) (t_7 : Tw) => if (tw_at_ t_7) = nI (sk T e a) then mob (fX6_wrong t_7 (nI (sk T e a))) fun t_11 => some (x4_6, t_11) else if nI 3 < ((tw_at_ t_7) - nI (sk T e a)) then mob (fX6_wrong t_7 (nI (sk T e a))) fun t_14 => some (x4_6, t_14) else if x4_6 < lo then mob (fX6_wrong t_7 (nI (sk T e a))) fun t_17 => some (x4_6, t_17) else if x4_6 ≤ hi then some (x4_6, t_7) else mob (fX6_wrong t_7 (nI (sk T e a))) fun t_20 => some (x4_6, t_20)) (nI (sk T e a)) mFU (nI 0) (xS t (nI (sk T e a)) nM d u m) = r → ∃ (v : Int32) (a' : Int32), r = some (if nOK T e lo hi a = true then (nv T (sk T e a) (dz T e a - sk T e a), xS t (nI (dz T e a)) nM d u m) else (v, xS t a' (nI (sk T e a)) d u m)) := by
    intro r hr
    rw [← hr]
    rw [show (nI 0) = nv T (sk T e a) 0 from rfl, hL, hz]
    simp only [xS_at_, x_wrong, mob_sm]
    unfold nOK
    by_cases q1 : sk T e a < dz T e a
    · rw [if_neg (fun y => absurd ((nI_eq (by omega) (by omega)).mp y) (by omega)), pk_sub (by omega), decide_eq_true q1]
      by_cases q2 : dz T e a ≤ sk T e a + 3
      · rw [if_neg (fun y => absurd ((nI_ltI (by omega) (by omega)).mp y) (by omega)), decide_eq_true q2, show min (dz T e a - sk T e a) 4 = dz T e a - sk T e a by omega, show min (dz T e a) (sk T e a + 4) = dz T e a by omega]
        by_cases w1 : nv T (sk T e a) (dz T e a - sk T e a) < lo
        · have : rin (nv T (sk T e a) (dz T e a - sk T e a)) lo hi = false := by unfold rin; rw [decide_eq_true w1]; rfl
          rw [if_pos w1, this, if_pos trivial]
          exact ⟨_, _, rfl⟩
        · rw [if_neg w1]
          by_cases w2 : nv T (sk T e a) (dz T e a - sk T e a) ≤ hi
          · have : rin (nv T (sk T e a) (dz T e a - sk T e a)) lo hi = true := rin_iff.mpr ⟨w1, Int32.not_lt.mpr w2⟩
            rw [if_pos w2, this]
            exact ⟨nI 0, nI 0, rfl⟩
          · have : rin (nv T (sk T e a) (dz T e a - sk T e a)) lo hi = false := by unfold rin; rw [decide_eq_true (Int32.not_le.mp w2), Bool.not_true, Bool.and_false]
            rw [if_neg w2, this, if_pos trivial]
            exact ⟨_, _, rfl⟩
      · rw [if_pos ((nI_ltI (by omega) (by omega)).mpr (by omega)), decide_eq_false q2, if_pos trivial]
        exact ⟨_, _, rfl⟩
    · rw [if_pos ((nI_eq (by omega) (by omega)).mpr (by omega)), decide_eq_false q1, if_pos trivial]
      exact ⟨_, _, rfl⟩
  exact hK _ rfl
/-- behind a fault nothing is read -/
theorem x_figs_f {a' : Int32} {p : Nat} (hp : p ≤ 400) (lo hi : Int32) : fX6_figures (xS t a' (nI p) d u m) lo hi = some (nI 0, xS t a' (nI p) d u m) := by
  unfold fX6_figures
  simp only [li0, li1, li2, li3, li4, li5, li6, li7, li8, li9, li10, li11, li12, li13, li14, li15, li16, li20, li24, li26, li30, li31, li32, li40, li41, li43, li48, li50, li52, li57, li59, li60, li62, li64, li65, li66, li67, li97, li99, li100, li122, li236, li239, li240, li255, li254, li256, li304, li400, li703, li704, li999, li1000000, li2000000000, li3344, li3648, li9999, li10000, li32767, lm1, xS_fault]
  rw [if_neg (nM_ne (by omega))]
end XT
