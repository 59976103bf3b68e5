/-! PURE LAWS: the coupling -/
theorem cpy_at {α : Type} {f g : Nat → α} {n j : Nat} (h : j < n) : va_cpy f g 0 0 n j = f j := by
  rw [pk_cpy_in (Nat.zero_le j) (by omega), Nat.zero_add, Nat.sub_zero]
theorem likens_ok (u w : Wd) {m : Nat → Int32} {o : Wd} (h : fX2_likens u w = some o) (hw : RW w m) : RW o m ∧ wd_law o = wd_law w := by
  unfold fX2_likens at h
  obtain ⟨s1, e1⟩ : ∃ z : Wd, z = wd_s_texts u (wd_texts w) := ⟨_, rfl⟩
  rw [mlt_e, ← e1] at h
  obtain ⟨s2, e2⟩ : ∃ z : Wd, z = wd_s_guests s1 (wd_guests w) := ⟨_, rfl⟩
  rw [mlt_e, ← e2] at h
  obtain ⟨s3, e3⟩ : ∃ z : Wd, z = wd_s_day s2 (wd_day w) := ⟨_, rfl⟩
  rw [mlt_e, ← e3] at h
  obtain ⟨s4, e4⟩ : ∃ z : Wd, z = wd_s_bath s3 (wd_bath w) := ⟨_, rfl⟩
  rw [mlt_e, ← e4] at h
  obtain ⟨s5, e5⟩ : ∃ z : Wd, z = wd_s_kept s4 (wd_kept w) := ⟨_, rfl⟩
  rw [mlt_e, ← e5] at h
  obtain ⟨s6, e6⟩ : ∃ z : Wd, z = wd_s_masons s5 (wd_masons w) := ⟨_, rfl⟩
  rw [mlt_e, ← e6] at h
  obtain ⟨s7, e7⟩ : ∃ z : Wd, z = wd_s_stones s6 (wd_stones w) := ⟨_, rfl⟩
  rw [mlt_e, ← e7] at h
  obtain ⟨s8, e8⟩ : ∃ z : Wd, z = wd_s_towers s7 (wd_towers w) := ⟨_, rfl⟩
  rw [mlt_e, ← e8] at h
  obtain ⟨s9, e9⟩ : ∃ z : Wd, z = wd_s_bore s8 (wd_bore w) := ⟨_, rfl⟩
  rw [mlt_e, ← e9] at h
  obtain ⟨s10, e10⟩ : ∃ z : Wd, z = wd_s_seen s9 (wd_seen w) := ⟨_, rfl⟩
  rw [mlt_e, ← e10] at h
  obtain ⟨s11, e11⟩ : ∃ z : Wd, z = wd_s_logged s10 (wd_logged w) := ⟨_, rfl⟩
  rw [mlt_e, ← e11] at h
  obtain ⟨s12, e12⟩ : ∃ z : Wd, z = wd_s_seed s11 (wd_seed w) := ⟨_, rfl⟩
  rw [mlt_e, ← e12] at h
  obtain ⟨s13, e13⟩ : ∃ z : Wd, z = wd_s_law s12 (wd_law w) := ⟨_, rfl⟩
  rw [mlt_e, ← e13] at h
  obtain ⟨s14, e14⟩ : ∃ z : Wd, z = wd_s_shift s13 (va_cpy (wd_shift w) (wd_shift s13) 0 0 2) := ⟨_, rfl⟩
  rw [mlt_e, ← e14] at h
  obtain ⟨s15, e15⟩ : ∃ z : Wd, z = wd_s_room s14 (va_cpy (wd_room w) (wd_room s14) 0 0 8) := ⟨_, rfl⟩
  rw [mlt_e, ← e15] at h
  obtain ⟨s16, e16⟩ : ∃ z : Wd, z = wd_s_wish s15 (va_cpy (wd_wish w) (wd_wish s15) 0 0 8) := ⟨_, rfl⟩
  rw [mlt_e, ← e16] at h
  obtain ⟨s17, e17⟩ : ∃ z : Wd, z = wd_s_doubt s16 (va_cpy (wd_doubt w) (wd_doubt s16) 0 0 8) := ⟨_, rfl⟩
  rw [mlt_e, ← e17] at h
  obtain ⟨s18, e18⟩ : ∃ z : Wd, z = wd_s_key s17 (va_cpy (wd_key w) (wd_key s17) 0 0 8) := ⟨_, rfl⟩
  rw [mlt_e, ← e18] at h
  obtain ⟨s19, e19⟩ : ∃ z : Wd, z = wd_s_here s18 (va_cpy (wd_here w) (wd_here s18) 0 0 8) := ⟨_, rfl⟩
  rw [mlt_e, ← e19] at h
  obtain ⟨s20, e20⟩ : ∃ z : Wd, z = wd_s_holes s19 (va_cpy (wd_holes w) (wd_holes s19) 0 0 8) := ⟨_, rfl⟩
  rw [mlt_e, ← e20] at h
  obtain ⟨s21, e21⟩ : ∃ z : Wd, z = wd_s_log s20 (va_cpy (wd_log w) (wd_log s20) 0 0 240) := ⟨_, rfl⟩
  rw [mlt_e, ← e21] at h
  injection h with h
  subst h
  have q_texts : wd_texts s21 = wd_texts w := by rw [e21, wdg_log_texts, e20, wdg_holes_texts, e19, wdg_here_texts, e18, wdg_key_texts, e17, wdg_doubt_texts, e16, wdg_wish_texts, e15, wdg_room_texts, e14, wdg_shift_texts, e13, wdg_law_texts, e12, wdg_seed_texts, e11, wdg_logged_texts, e10, wdg_seen_texts, e9, wdg_bore_texts, e8, wdg_towers_texts, e7, wdg_stones_texts, e6, wdg_masons_texts, e5, wdg_kept_texts, e4, wdg_bath_texts, e3, wdg_day_texts, e2, wdg_guests_texts, e1, wdg_texts_texts]
  have q_guests : wd_guests s21 = wd_guests w := by rw [e21, wdg_log_guests, e20, wdg_holes_guests, e19, wdg_here_guests, e18, wdg_key_guests, e17, wdg_doubt_guests, e16, wdg_wish_guests, e15, wdg_room_guests, e14, wdg_shift_guests, e13, wdg_law_guests, e12, wdg_seed_guests, e11, wdg_logged_guests, e10, wdg_seen_guests, e9, wdg_bore_guests, e8, wdg_towers_guests, e7, wdg_stones_guests, e6, wdg_masons_guests, e5, wdg_kept_guests, e4, wdg_bath_guests, e3, wdg_day_guests, e2, wdg_guests_guests]
  have q_day : wd_day s21 = wd_day w := by rw [e21, wdg_log_day, e20, wdg_holes_day, e19, wdg_here_day, e18, wdg_key_day, e17, wdg_doubt_day, e16, wdg_wish_day, e15, wdg_room_day, e14, wdg_shift_day, e13, wdg_law_day, e12, wdg_seed_day, e11, wdg_logged_day, e10, wdg_seen_day, e9, wdg_bore_day, e8, wdg_towers_day, e7, wdg_stones_day, e6, wdg_masons_day, e5, wdg_kept_day, e4, wdg_bath_day, e3, wdg_day_day]
  have q_bath : wd_bath s21 = wd_bath w := by rw [e21, wdg_log_bath, e20, wdg_holes_bath, e19, wdg_here_bath, e18, wdg_key_bath, e17, wdg_doubt_bath, e16, wdg_wish_bath, e15, wdg_room_bath, e14, wdg_shift_bath, e13, wdg_law_bath, e12, wdg_seed_bath, e11, wdg_logged_bath, e10, wdg_seen_bath, e9, wdg_bore_bath, e8, wdg_towers_bath, e7, wdg_stones_bath, e6, wdg_masons_bath, e5, wdg_kept_bath, e4, wdg_bath_bath]
  have q_kept : wd_kept s21 = wd_kept w := by rw [e21, wdg_log_kept, e20, wdg_holes_kept, e19, wdg_here_kept, e18, wdg_key_kept, e17, wdg_doubt_kept, e16, wdg_wish_kept, e15, wdg_room_kept, e14, wdg_shift_kept, e13, wdg_law_kept, e12, wdg_seed_kept, e11, wdg_logged_kept, e10, wdg_seen_kept, e9, wdg_bore_kept, e8, wdg_towers_kept, e7, wdg_stones_kept, e6, wdg_masons_kept, e5, wdg_kept_kept]
  have q_masons : wd_masons s21 = wd_masons w := by rw [e21, wdg_log_masons, e20, wdg_holes_masons, e19, wdg_here_masons, e18, wdg_key_masons, e17, wdg_doubt_masons, e16, wdg_wish_masons, e15, wdg_room_masons, e14, wdg_shift_masons, e13, wdg_law_masons, e12, wdg_seed_masons, e11, wdg_logged_masons, e10, wdg_seen_masons, e9, wdg_bore_masons, e8, wdg_towers_masons, e7, wdg_stones_masons, e6, wdg_masons_masons]
  have q_stones : wd_stones s21 = wd_stones w := by rw [e21, wdg_log_stones, e20, wdg_holes_stones, e19, wdg_here_stones, e18, wdg_key_stones, e17, wdg_doubt_stones, e16, wdg_wish_stones, e15, wdg_room_stones, e14, wdg_shift_stones, e13, wdg_law_stones, e12, wdg_seed_stones, e11, wdg_logged_stones, e10, wdg_seen_stones, e9, wdg_bore_stones, e8, wdg_towers_stones, e7, wdg_stones_stones]
  have q_towers : wd_towers s21 = wd_towers w := by rw [e21, wdg_log_towers, e20, wdg_holes_towers, e19, wdg_here_towers, e18, wdg_key_towers, e17, wdg_doubt_towers, e16, wdg_wish_towers, e15, wdg_room_towers, e14, wdg_shift_towers, e13, wdg_law_towers, e12, wdg_seed_towers, e11, wdg_logged_towers, e10, wdg_seen_towers, e9, wdg_bore_towers, e8, wdg_towers_towers]
  have q_bore : wd_bore s21 = wd_bore w := by rw [e21, wdg_log_bore, e20, wdg_holes_bore, e19, wdg_here_bore, e18, wdg_key_bore, e17, wdg_doubt_bore, e16, wdg_wish_bore, e15, wdg_room_bore, e14, wdg_shift_bore, e13, wdg_law_bore, e12, wdg_seed_bore, e11, wdg_logged_bore, e10, wdg_seen_bore, e9, wdg_bore_bore]
  have q_seen : wd_seen s21 = wd_seen w := by rw [e21, wdg_log_seen, e20, wdg_holes_seen, e19, wdg_here_seen, e18, wdg_key_seen, e17, wdg_doubt_seen, e16, wdg_wish_seen, e15, wdg_room_seen, e14, wdg_shift_seen, e13, wdg_law_seen, e12, wdg_seed_seen, e11, wdg_logged_seen, e10, wdg_seen_seen]
  have q_logged : wd_logged s21 = wd_logged w := by rw [e21, wdg_log_logged, e20, wdg_holes_logged, e19, wdg_here_logged, e18, wdg_key_logged, e17, wdg_doubt_logged, e16, wdg_wish_logged, e15, wdg_room_logged, e14, wdg_shift_logged, e13, wdg_law_logged, e12, wdg_seed_logged, e11, wdg_logged_logged]
  have q_seed : wd_seed s21 = wd_seed w := by rw [e21, wdg_log_seed, e20, wdg_holes_seed, e19, wdg_here_seed, e18, wdg_key_seed, e17, wdg_doubt_seed, e16, wdg_wish_seed, e15, wdg_room_seed, e14, wdg_shift_seed, e13, wdg_law_seed, e12, wdg_seed_seed]
  have q_law : wd_law s21 = wd_law w := by rw [e21, wdg_log_law, e20, wdg_holes_law, e19, wdg_here_law, e18, wdg_key_law, e17, wdg_doubt_law, e16, wdg_wish_law, e15, wdg_room_law, e14, wdg_shift_law, e13, wdg_law_law]
  have q_shift : wd_shift s21 = va_cpy (wd_shift w) (wd_shift s13) 0 0 2 := by rw [e21, wdg_log_shift, e20, wdg_holes_shift, e19, wdg_here_shift, e18, wdg_key_shift, e17, wdg_doubt_shift, e16, wdg_wish_shift, e15, wdg_room_shift, e14, wdg_shift_shift]
  have q_room : wd_room s21 = va_cpy (wd_room w) (wd_room s14) 0 0 8 := by rw [e21, wdg_log_room, e20, wdg_holes_room, e19, wdg_here_room, e18, wdg_key_room, e17, wdg_doubt_room, e16, wdg_wish_room, e15, wdg_room_room]
  have q_wish : wd_wish s21 = va_cpy (wd_wish w) (wd_wish s15) 0 0 8 := by rw [e21, wdg_log_wish, e20, wdg_holes_wish, e19, wdg_here_wish, e18, wdg_key_wish, e17, wdg_doubt_wish, e16, wdg_wish_wish]
  have q_doubt : wd_doubt s21 = va_cpy (wd_doubt w) (wd_doubt s16) 0 0 8 := by rw [e21, wdg_log_doubt, e20, wdg_holes_doubt, e19, wdg_here_doubt, e18, wdg_key_doubt, e17, wdg_doubt_doubt]
  have q_key : wd_key s21 = va_cpy (wd_key w) (wd_key s17) 0 0 8 := by rw [e21, wdg_log_key, e20, wdg_holes_key, e19, wdg_here_key, e18, wdg_key_key]
  have q_here : wd_here s21 = va_cpy (wd_here w) (wd_here s18) 0 0 8 := by rw [e21, wdg_log_here, e20, wdg_holes_here, e19, wdg_here_here]
  have q_holes : wd_holes s21 = va_cpy (wd_holes w) (wd_holes s19) 0 0 8 := by rw [e21, wdg_log_holes, e20, wdg_holes_holes]
  have q_log : wd_log s21 = va_cpy (wd_log w) (wd_log s20) 0 0 240 := by rw [e21, wdg_log_log]
  refine ⟨⟨⟨q_texts.trans hw.texts, q_guests.trans hw.guests, q_bath.trans hw.bath, q_kept.trans hw.kept, q_masons.trans hw.masons, q_stones.trans hw.stones, q_towers.trans hw.towers, q_bore.trans hw.bore, q_day.trans hw.day, q_seen.trans hw.seen, q_logged.trans hw.logged, q_seed.trans hw.seed⟩, ?_, ?_, ?_, ?_⟩, q_law⟩
  · exact fun c hc => (congrFun q_shift c).trans ((cpy_at hc).trans (hw.shift hc))
  · exact fun g hg => ⟨(congrFun q_room g).trans ((cpy_at hg).trans (hw.room hg)), (congrFun q_wish g).trans ((cpy_at hg).trans (hw.wish hg)), (congrFun q_doubt g).trans ((cpy_at hg).trans (hw.doubt hg)), (congrArg bz ((congrFun q_key g).trans (cpy_at hg))).trans (hw.keyz hg), (congrArg bz ((congrFun q_here g).trans (cpy_at hg))).trans (hw.herez hg)⟩
  · exact fun r hr => (congrFun q_holes r).trans ((cpy_at hr).trans (hw.holes hr))
  · exact fun j hj => (congrFun q_log j).trans ((cpy_at hj).trans (hw.log hj))
theorem RW.congr {w : Wd} {m m' : Nat → Int32} (h : RW w m) (he : ∀ k, k < 304 → m' k = m k) : RW w m' := by
  refine ⟨⟨h.texts.trans (he _ (by omega)).symm, h.guests.trans (he _ (by omega)).symm, h.bath.trans (he _ (by omega)).symm, h.kept.trans (he _ (by omega)).symm, h.masons.trans (he _ (by omega)).symm, h.stones.trans (he _ (by omega)).symm, h.towers.trans (he _ (by omega)).symm, h.bore.trans (he _ (by omega)).symm, h.day.trans (he _ (by omega)).symm, h.seen.trans (he _ (by omega)).symm, h.logged.trans (he _ (by omega)).symm, h.seed.trans (he _ (by omega)).symm⟩, ?_, ?_, ?_, ?_⟩
  · exact fun c hc => (h.shift hc).trans (he _ (by omega)).symm
  · exact fun g hg => ⟨(h.room hg).trans (he _ (by omega)).symm, (h.wish hg).trans (he _ (by omega)).symm, (h.doubt hg).trans (he _ (by omega)).symm, (h.keyz hg).trans (he _ (by omega)).symm, (h.herez hg).trans (he _ (by omega)).symm⟩
  · exact fun r hr => (h.holes hr).trans (he _ (by omega)).symm
  · exact fun j hj => (h.log hj).trans (he _ (by omega)).symm
/-- what the law is asked, of the reference -/
def scT (t : Tw) : Sc := (tw_fact t 0, tw_fact t 1, tw_fact t 2, tw_fact t 3, tw_fact t 4, tw_fact t 5, tw_fact t 6, tw_hasKey t, tw_isEve t)
/-- the same but for what a reading uses -/
def FrT (t t' : Tw) : Prop := tw_m t' = tw_m t ∧ tw_kept t' = tw_kept t ∧ tw_hasImage t' = tw_hasImage t ∧ tw_aside t' = tw_aside t ∧ tw_acts t' = tw_acts t ∧ tw_acted t' = tw_acted t ∧ tw_tape t' = tw_tape t ∧ tw_taped t' = tw_taped t ∧ tw_thrown t' = tw_thrown t
/-- the text in the row means f -/
def RdOK (m : Nat → Int32) (f : Sc → Int32) : Prop := ∀ t : Tw, (∀ k, 304 ≤ k → k < 704 → tw_m t k = m k) → tw_base t = nI 304 → tw_end_ t = m 2 → tw_at_ t = nI 0 → tw_deep t = nI 0 → tw_fault t = nM → tw_turns t = nI 0 → ∃ (r : Int32) (t' : Tw), fX6_read t true = some (r, t') ∧ tw_turns t' = f (scT t) ∧ FrT t t'
def Lw (Sm : zSem) (o : Option Nat) (m : Nat → Int32) : Prop := match o with
  | none => m 1 = nM
  | some q => ∃ (n : Nat) (f : Sc → Int32), Sm q = some (n, f) ∧ n ≤ 12 ∧ m 1 = nI n ∧ RdOK m f
theorem RdOK.congr {m m' : Nat → Int32} {f : Sc → Int32} (h : RdOK m f) (h2 : m' 2 = m 2) (he : ∀ k, 304 ≤ k → k < 704 → m' k = m k) : RdOK m' f := fun t h1 hb hn ha hd hf ht => h t (fun k a b => (h1 k a b).trans (he k a b)) hb (hn.trans h2) ha hd hf ht
theorem Lw.congr {Sm : zSem} {o : Option Nat} {m m' : Nat → Int32} (h : Lw Sm o m) (h1 : m' 1 = m 1) (h2 : m' 2 = m 2) (he : ∀ k, 304 ≤ k → k < 704 → m' k = m k) : Lw Sm o m' := by
  cases o with
  | none => exact h1.trans h
  | some q =>
    obtain ⟨n, f, a, b, c, d⟩ := h
    exact ⟨n, f, a, b, h1.trans c, d.congr h2 he⟩
/-- one world and one row -/
def WM (Sm : zSem) (w : Wd) (m : Nat → Int32) : Prop := RW w m ∧ Inv m ∧ Lw Sm (wd_law w) m
theorem WM.congr {Sm : zSem} {w : Wd} {m m' : Nat → Int32} (h : WM Sm w m) (he : ∀ k, k < 704 → m' k = m k) : WM Sm w m' :=
  ⟨h.1.congr fun k hk => he k (by omega), h.2.1.congr fun k hk => he k (by omega), h.2.2.congr (he 1 (by omega)) (he 2 (by omega)) fun k _ b => he k b⟩
theorem WM.likens {Sm : zSem} {u w o : Wd} {m : Nat → Int32} (h : WM Sm w m) (hl : fX2_likens u w = some o) : WM Sm o m := by
  obtain ⟨a, b⟩ := likens_ok u w hl h.1
  exact ⟨a, h.2.1, by rw [b]; exact h.2.2⟩
/-- the rows ahead of the acts -/
def aR (f : Nat → Int32) (j : Nat) : Nat → Int32 := fun k => f (304 * j + k)
def Ac (Sm : zSem) (us : List Wd) (w : Wd) (acts : Nat → Int32) (acted : Int32) (m : Nat → Int32) : Prop :=
  acted = nI us.length ∧ us.length ≤ 12 ∧ ∀ (j : Nat) (u : Wd), us[j]? = some u → RW u (aR acts j) ∧ Inv (aR acts j) ∧ wd_law u = wd_law w ∧ aR acts j 1 = m 1 ∧ aR acts j 2 = m 2
theorem Ac.nil {Sm : zSem} {w : Wd} {acts m : Nat → Int32} : Ac Sm [] w acts (nI 0) m := ⟨rfl, by decide, fun j u h => by simp at h⟩
/-- the tape -/
def sb (x : Int32) : Int32 := x.toInt8.toInt32
def Tp (rd : Rd) (tape : Nat → Int32) (taped : Int32) : Prop := rd_length rd = taped ∧ ∃ n : Nat, taped = nI n ∧ n ≤ 400 ∧ ∀ k, k < n → isN (tape k) 255 ∧ rd_tape rd k = sb (tape k)
def Im (Sm : zSem) (sh : Kp) (im : Wd) (has : Bool) (kept : Nat → Int32) : Prop := kp_hasImage sh = has ∧ (has = true → WM Sm im kept)
def Cp (Sm : zSem) (us : List Wd) (sh : Kp) (w im : Wd) (rd : Rd) (t : Tw) : Prop :=
  WM Sm w (tw_m t) ∧ Tp rd (tw_tape t) (tw_taped t) ∧ rd_fault rd = tw_fault t ∧ Im Sm sh im (tw_hasImage t) (tw_kept t) ∧ Ac Sm us w (tw_acts t) (tw_acted t) (tw_m t)
theorem Cp.thrown {Sm : zSem} {us : List Wd} {sh : Kp} {w im : Wd} {rd : Rd} {t : Tw} (h : Cp Sm us sh w im rd t) (v : Int32) : Cp Sm us sh w im rd (tw_s_thrown t v) := h
/-- behind an act: remembered, then one number of the row -/
theorem Cp.act {Sm : zSem} {us : List Wd} {sh : Kp} {w im : Wd} {rd : Rd} {t : Tw} (h : Cp Sm us sh w im rd t) {u0 ou : Wd} (hl : fX2_likens u0 w = some ou) {w' : Wd} {m' : Nat → Int32} (hw : RW w' m') (hI : Inv m') (hlaw : wd_law w' = wd_law w) (h1 : m' 1 = tw_m t 1) (h2 : m' 2 = tw_m t 2) (he : ∀ k, 304 ≤ k → k < 704 → m' k = tw_m t k) : Cp Sm (puW us ou) sh w' im rd (tw_s_m (tw_s_acted (tw_s_acts t (remA t us.length)) (nI (if us.length = 12 then 12 else us.length + 1))) m') := by
  obtain ⟨hW, hT, hf, hIm, hA, hlen, hrow⟩ := h
  obtain ⟨hou, houl⟩ := likens_ok u0 w hl hW.1
  refine ⟨⟨hw, hI, by rw [hlaw]; exact hW.2.2.congr h1 h2 he⟩, hT, hf, hIm, ?_, ?_, ?_⟩
  · show nI (if us.length = 12 then 12 else us.length + 1) = nI (puW us ou).length
    unfold puW
    by_cases q : us.length = 12
    · rw [if_pos q, if_pos q, List.length_append, List.length_tail, q]; rfl
    · rw [if_neg q, if_neg q, List.length_append]; rfl
  · unfold puW
    by_cases q : us.length = 12
    · rw [if_pos q, List.length_append, List.length_tail, q, List.length_singleton]; decide
    · rw [if_neg q, List.length_append, List.length_singleton]; omega
  · intro j u hu
    show RW u (aR (remA t us.length) j) ∧ Inv (aR (remA t us.length) j) ∧ wd_law u = wd_law w' ∧ aR (remA t us.length) j 1 = m' 1 ∧ aR (remA t us.length) j 2 = m' 2
    unfold puW at hu
    unfold remA
    by_cases q : us.length = 12
    · rw [if_pos q] at hu
      rw [if_pos q]
      rcases Nat.lt_or_ge j 11 with hj | hj
      · rw [List.getElem?_append_left (by rw [List.length_tail, q]; exact hj), List.getElem?_tail] at hu
        obtain ⟨a1, a2, a3, a4, a5⟩ := hrow (j + 1) u hu
        have e : ∀ k, k < 304 → aR (cpf (cpf (tw_acts t) 0 (fun k => tw_acts t (k + 304)) 3344) 3344 (tw_m t) 304) j k = aR (tw_acts t) (j + 1) k := fun k hk => by
          show cpf _ 3344 _ 304 (304 * j + k) = tw_acts t (304 * (j + 1) + k)
          rw [cpf_out (by omega), cpf_lo (by omega)]
          congr 1
          omega
        exact ⟨a1.congr e, a2.congr fun k hk => e k (by omega), a3.trans hlaw.symm, (e 1 (by omega)).trans (a4.trans h1.symm), (e 2 (by omega)).trans (a5.trans h2.symm)⟩
      · rw [List.getElem?_append_right (by rw [List.length_tail, q]; exact hj), List.length_tail, q] at hu
        have ej : j = 11 := by
          have := (List.getElem?_eq_some_iff.mp hu).1
          rw [List.length_singleton] at this
          omega
        subst ej
        cases hu
        have e : ∀ k, k < 304 → aR (cpf (cpf (tw_acts t) 0 (fun k => tw_acts t (k + 304)) 3344) 3344 (tw_m t) 304) 11 k = tw_m t k := fun k hk => by
          show cpf _ 3344 _ 304 (3344 + k) = _
          exact cpf_in hk
        exact ⟨hou.congr e, hW.2.1.congr fun k hk => e k (by omega), houl.trans hlaw.symm, (e 1 (by omega)).trans h1.symm, (e 2 (by omega)).trans h2.symm⟩
    · rw [if_neg q] at hu
      rw [if_neg q]
      rcases Nat.lt_or_ge j us.length with hj | hj
      · rw [List.getElem?_append_left hj] at hu
        obtain ⟨a1, a2, a3, a4, a5⟩ := hrow j u hu
        have e : ∀ k, k < 304 → aR (cpf (tw_acts t) (304 * us.length) (tw_m t) 304) j k = aR (tw_acts t) j k := fun k hk => by
          show cpf _ _ _ 304 (304 * j + k) = tw_acts t (304 * j + k)
          exact cpf_out (Or.inl (by omega))
        exact ⟨a1.congr e, a2.congr fun k hk => e k (by omega), a3.trans hlaw.symm, (e 1 (by omega)).trans (a4.trans h1.symm), (e 2 (by omega)).trans (a5.trans h2.symm)⟩
      · rw [List.getElem?_append_right hj] at hu
        have ej : j = us.length := by
          have := (List.getElem?_eq_some_iff.mp hu).1
          rw [List.length_singleton] at this
          omega
        subst ej
        rw [Nat.sub_self] at hu
        cases hu
        have e : ∀ k, k < 304 → aR (cpf (tw_acts t) (304 * us.length) (tw_m t) 304) us.length k = tw_m t k := fun k hk => cpf_in hk
        exact ⟨hou.congr e, hW.2.1.congr fun k hk => e k (by omega), houl.trans hlaw.symm, (e 1 (by omega)).trans h1.symm, (e 2 (by omega)).trans h2.symm⟩
theorem x_sets (t : Tw) {a p : Nat} (ha : tw_acted t = nI a) (ha2 : a ≤ 12) (hp : p < 704) (v : Int32) : fX6_sets t (nI p) v = some (tw_m t p, tw_s_m (tw_s_acted (tw_s_acts t (remA t a)) (nI (if a = 12 then 12 else a + 1))) (upd (tw_m t) p v)) := by
  unfold fX6_sets
  rw [x_remembers t ha ha2, mob_sm, mckN _ hp (by omega), mckN _ hp (by omega), clN (by omega), mlt_e]
  rfl
