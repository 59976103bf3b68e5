/-! PURE LAWS: one field, one number of the row (printed by mkup.py) -/
theorem RW.up_texts {w : Wd} {m : Nat → Int32} (h : RW w m) (v : Int32) : RW (wd_s_texts w v) (upd m 0 v) := by
  refine ⟨⟨upd_s.symm, h.guests.trans (upd_n (by omega)).symm, h.bath.trans (upd_n (by omega)).symm, h.kept.trans (upd_n (by omega)).symm, h.masons.trans (upd_n (by omega)).symm, h.stones.trans (upd_n (by omega)).symm, h.towers.trans (upd_n (by omega)).symm, h.bore.trans (upd_n (by omega)).symm, h.day.trans (upd_n (by omega)).symm, h.seen.trans (upd_n (by omega)).symm, h.logged.trans (upd_n (by omega)).symm, h.seed.trans (upd_n (by omega)).symm⟩, ?_, ?_, ?_, ?_⟩
  · exact fun c hc => (h.shift hc).trans (upd_n (by omega)).symm
  · exact fun g hg => ⟨(h.room hg).trans (upd_n (by omega)).symm, (h.wish hg).trans (upd_n (by omega)).symm, (h.doubt hg).trans (upd_n (by omega)).symm, (h.keyz hg).trans (upd_n (by omega)).symm, (h.herez hg).trans (upd_n (by omega)).symm⟩
  · exact fun r hr => (h.holes hr).trans (upd_n (by omega)).symm
  · exact fun j hj => (h.log hj).trans (upd_n (by omega)).symm
theorem RW.up_guests {w : Wd} {m : Nat → Int32} (h : RW w m) (v : Int32) : RW (wd_s_guests w v) (upd m 3 v) := by
  refine ⟨⟨h.texts.trans (upd_n (by omega)).symm, upd_s.symm, h.bath.trans (upd_n (by omega)).symm, h.kept.trans (upd_n (by omega)).symm, h.masons.trans (upd_n (by omega)).symm, h.stones.trans (upd_n (by omega)).symm, h.towers.trans (upd_n (by omega)).symm, h.bore.trans (upd_n (by omega)).symm, h.day.trans (upd_n (by omega)).symm, h.seen.trans (upd_n (by omega)).symm, h.logged.trans (upd_n (by omega)).symm, h.seed.trans (upd_n (by omega)).symm⟩, ?_, ?_, ?_, ?_⟩
  · exact fun c hc => (h.shift hc).trans (upd_n (by omega)).symm
  · exact fun g hg => ⟨(h.room hg).trans (upd_n (by omega)).symm, (h.wish hg).trans (upd_n (by omega)).symm, (h.doubt hg).trans (upd_n (by omega)).symm, (h.keyz hg).trans (upd_n (by omega)).symm, (h.herez hg).trans (upd_n (by omega)).symm⟩
  · exact fun r hr => (h.holes hr).trans (upd_n (by omega)).symm
  · exact fun j hj => (h.log hj).trans (upd_n (by omega)).symm
theorem RW.up_bath {w : Wd} {m : Nat → Int32} (h : RW w m) (v : Int32) : RW (wd_s_bath w v) (upd m 4 v) := by
  refine ⟨⟨h.texts.trans (upd_n (by omega)).symm, h.guests.trans (upd_n (by omega)).symm, upd_s.symm, h.kept.trans (upd_n (by omega)).symm, h.masons.trans (upd_n (by omega)).symm, h.stones.trans (upd_n (by omega)).symm, h.towers.trans (upd_n (by omega)).symm, h.bore.trans (upd_n (by omega)).symm, h.day.trans (upd_n (by omega)).symm, h.seen.trans (upd_n (by omega)).symm, h.logged.trans (upd_n (by omega)).symm, h.seed.trans (upd_n (by omega)).symm⟩, ?_, ?_, ?_, ?_⟩
  · exact fun c hc => (h.shift hc).trans (upd_n (by omega)).symm
  · exact fun g hg => ⟨(h.room hg).trans (upd_n (by omega)).symm, (h.wish hg).trans (upd_n (by omega)).symm, (h.doubt hg).trans (upd_n (by omega)).symm, (h.keyz hg).trans (upd_n (by omega)).symm, (h.herez hg).trans (upd_n (by omega)).symm⟩
  · exact fun r hr => (h.holes hr).trans (upd_n (by omega)).symm
  · exact fun j hj => (h.log hj).trans (upd_n (by omega)).symm
theorem RW.up_kept {w : Wd} {m : Nat → Int32} (h : RW w m) (v : Int32) : RW (wd_s_kept w v) (upd m 5 v) := by
  refine ⟨⟨h.texts.trans (upd_n (by omega)).symm, h.guests.trans (upd_n (by omega)).symm, h.bath.trans (upd_n (by omega)).symm, upd_s.symm, h.masons.trans (upd_n (by omega)).symm, h.stones.trans (upd_n (by omega)).symm, h.towers.trans (upd_n (by omega)).symm, h.bore.trans (upd_n (by omega)).symm, h.day.trans (upd_n (by omega)).symm, h.seen.trans (upd_n (by omega)).symm, h.logged.trans (upd_n (by omega)).symm, h.seed.trans (upd_n (by omega)).symm⟩, ?_, ?_, ?_, ?_⟩
  · exact fun c hc => (h.shift hc).trans (upd_n (by omega)).symm
  · exact fun g hg => ⟨(h.room hg).trans (upd_n (by omega)).symm, (h.wish hg).trans (upd_n (by omega)).symm, (h.doubt hg).trans (upd_n (by omega)).symm, (h.keyz hg).trans (upd_n (by omega)).symm, (h.herez hg).trans (upd_n (by omega)).symm⟩
  · exact fun r hr => (h.holes hr).trans (upd_n (by omega)).symm
  · exact fun j hj => (h.log hj).trans (upd_n (by omega)).symm
theorem RW.up_masons {w : Wd} {m : Nat → Int32} (h : RW w m) (v : Int32) : RW (wd_s_masons w v) (upd m 6 v) := by
  refine ⟨⟨h.texts.trans (upd_n (by omega)).symm, h.guests.trans (upd_n (by omega)).symm, h.bath.trans (upd_n (by omega)).symm, h.kept.trans (upd_n (by omega)).symm, upd_s.symm, h.stones.trans (upd_n (by omega)).symm, h.towers.trans (upd_n (by omega)).symm, h.bore.trans (upd_n (by omega)).symm, h.day.trans (upd_n (by omega)).symm, h.seen.trans (upd_n (by omega)).symm, h.logged.trans (upd_n (by omega)).symm, h.seed.trans (upd_n (by omega)).symm⟩, ?_, ?_, ?_, ?_⟩
  · exact fun c hc => (h.shift hc).trans (upd_n (by omega)).symm
  · exact fun g hg => ⟨(h.room hg).trans (upd_n (by omega)).symm, (h.wish hg).trans (upd_n (by omega)).symm, (h.doubt hg).trans (upd_n (by omega)).symm, (h.keyz hg).trans (upd_n (by omega)).symm, (h.herez hg).trans (upd_n (by omega)).symm⟩
  · exact fun r hr => (h.holes hr).trans (upd_n (by omega)).symm
  · exact fun j hj => (h.log hj).trans (upd_n (by omega)).symm
theorem RW.up_stones {w : Wd} {m : Nat → Int32} (h : RW w m) (v : Int32) : RW (wd_s_stones w v) (upd m 7 v) := by
  refine ⟨⟨h.texts.trans (upd_n (by omega)).symm, h.guests.trans (upd_n (by omega)).symm, h.bath.trans (upd_n (by omega)).symm, h.kept.trans (upd_n (by omega)).symm, h.masons.trans (upd_n (by omega)).symm, upd_s.symm, h.towers.trans (upd_n (by omega)).symm, h.bore.trans (upd_n (by omega)).symm, h.day.trans (upd_n (by omega)).symm, h.seen.trans (upd_n (by omega)).symm, h.logged.trans (upd_n (by omega)).symm, h.seed.trans (upd_n (by omega)).symm⟩, ?_, ?_, ?_, ?_⟩
  · exact fun c hc => (h.shift hc).trans (upd_n (by omega)).symm
  · exact fun g hg => ⟨(h.room hg).trans (upd_n (by omega)).symm, (h.wish hg).trans (upd_n (by omega)).symm, (h.doubt hg).trans (upd_n (by omega)).symm, (h.keyz hg).trans (upd_n (by omega)).symm, (h.herez hg).trans (upd_n (by omega)).symm⟩
  · exact fun r hr => (h.holes hr).trans (upd_n (by omega)).symm
  · exact fun j hj => (h.log hj).trans (upd_n (by omega)).symm
theorem RW.up_towers {w : Wd} {m : Nat → Int32} (h : RW w m) (v : Int32) : RW (wd_s_towers w v) (upd m 8 v) := by
  refine ⟨⟨h.texts.trans (upd_n (by omega)).symm, h.guests.trans (upd_n (by omega)).symm, h.bath.trans (upd_n (by omega)).symm, h.kept.trans (upd_n (by omega)).symm, h.masons.trans (upd_n (by omega)).symm, h.stones.trans (upd_n (by omega)).symm, upd_s.symm, h.bore.trans (upd_n (by omega)).symm, h.day.trans (upd_n (by omega)).symm, h.seen.trans (upd_n (by omega)).symm, h.logged.trans (upd_n (by omega)).symm, h.seed.trans (upd_n (by omega)).symm⟩, ?_, ?_, ?_, ?_⟩
  · exact fun c hc => (h.shift hc).trans (upd_n (by omega)).symm
  · exact fun g hg => ⟨(h.room hg).trans (upd_n (by omega)).symm, (h.wish hg).trans (upd_n (by omega)).symm, (h.doubt hg).trans (upd_n (by omega)).symm, (h.keyz hg).trans (upd_n (by omega)).symm, (h.herez hg).trans (upd_n (by omega)).symm⟩
  · exact fun r hr => (h.holes hr).trans (upd_n (by omega)).symm
  · exact fun j hj => (h.log hj).trans (upd_n (by omega)).symm
theorem RW.up_bore {w : Wd} {m : Nat → Int32} (h : RW w m) (v : Int32) : RW (wd_s_bore w v) (upd m 9 v) := by
  refine ⟨⟨h.texts.trans (upd_n (by omega)).symm, h.guests.trans (upd_n (by omega)).symm, h.bath.trans (upd_n (by omega)).symm, h.kept.trans (upd_n (by omega)).symm, h.masons.trans (upd_n (by omega)).symm, h.stones.trans (upd_n (by omega)).symm, h.towers.trans (upd_n (by omega)).symm, upd_s.symm, h.day.trans (upd_n (by omega)).symm, h.seen.trans (upd_n (by omega)).symm, h.logged.trans (upd_n (by omega)).symm, h.seed.trans (upd_n (by omega)).symm⟩, ?_, ?_, ?_, ?_⟩
  · exact fun c hc => (h.shift hc).trans (upd_n (by omega)).symm
  · exact fun g hg => ⟨(h.room hg).trans (upd_n (by omega)).symm, (h.wish hg).trans (upd_n (by omega)).symm, (h.doubt hg).trans (upd_n (by omega)).symm, (h.keyz hg).trans (upd_n (by omega)).symm, (h.herez hg).trans (upd_n (by omega)).symm⟩
  · exact fun r hr => (h.holes hr).trans (upd_n (by omega)).symm
  · exact fun j hj => (h.log hj).trans (upd_n (by omega)).symm
theorem RW.up_day {w : Wd} {m : Nat → Int32} (h : RW w m) (v : Int32) : RW (wd_s_day w v) (upd m 10 v) := by
  refine ⟨⟨h.texts.trans (upd_n (by omega)).symm, h.guests.trans (upd_n (by omega)).symm, h.bath.trans (upd_n (by omega)).symm, h.kept.trans (upd_n (by omega)).symm, h.masons.trans (upd_n (by omega)).symm, h.stones.trans (upd_n (by omega)).symm, h.towers.trans (upd_n (by omega)).symm, h.bore.trans (upd_n (by omega)).symm, upd_s.symm, h.seen.trans (upd_n (by omega)).symm, h.logged.trans (upd_n (by omega)).symm, h.seed.trans (upd_n (by omega)).symm⟩, ?_, ?_, ?_, ?_⟩
  · exact fun c hc => (h.shift hc).trans (upd_n (by omega)).symm
  · exact fun g hg => ⟨(h.room hg).trans (upd_n (by omega)).symm, (h.wish hg).trans (upd_n (by omega)).symm, (h.doubt hg).trans (upd_n (by omega)).symm, (h.keyz hg).trans (upd_n (by omega)).symm, (h.herez hg).trans (upd_n (by omega)).symm⟩
  · exact fun r hr => (h.holes hr).trans (upd_n (by omega)).symm
  · exact fun j hj => (h.log hj).trans (upd_n (by omega)).symm
theorem RW.up_seen {w : Wd} {m : Nat → Int32} (h : RW w m) (v : Int32) : RW (wd_s_seen w v) (upd m 11 v) := by
  refine ⟨⟨h.texts.trans (upd_n (by omega)).symm, h.guests.trans (upd_n (by omega)).symm, h.bath.trans (upd_n (by omega)).symm, h.kept.trans (upd_n (by omega)).symm, h.masons.trans (upd_n (by omega)).symm, h.stones.trans (upd_n (by omega)).symm, h.towers.trans (upd_n (by omega)).symm, h.bore.trans (upd_n (by omega)).symm, h.day.trans (upd_n (by omega)).symm, upd_s.symm, h.logged.trans (upd_n (by omega)).symm, h.seed.trans (upd_n (by omega)).symm⟩, ?_, ?_, ?_, ?_⟩
  · exact fun c hc => (h.shift hc).trans (upd_n (by omega)).symm
  · exact fun g hg => ⟨(h.room hg).trans (upd_n (by omega)).symm, (h.wish hg).trans (upd_n (by omega)).symm, (h.doubt hg).trans (upd_n (by omega)).symm, (h.keyz hg).trans (upd_n (by omega)).symm, (h.herez hg).trans (upd_n (by omega)).symm⟩
  · exact fun r hr => (h.holes hr).trans (upd_n (by omega)).symm
  · exact fun j hj => (h.log hj).trans (upd_n (by omega)).symm
theorem RW.up_logged {w : Wd} {m : Nat → Int32} (h : RW w m) (v : Int32) : RW (wd_s_logged w v) (upd m 14 v) := by
  refine ⟨⟨h.texts.trans (upd_n (by omega)).symm, h.guests.trans (upd_n (by omega)).symm, h.bath.trans (upd_n (by omega)).symm, h.kept.trans (upd_n (by omega)).symm, h.masons.trans (upd_n (by omega)).symm, h.stones.trans (upd_n (by omega)).symm, h.towers.trans (upd_n (by omega)).symm, h.bore.trans (upd_n (by omega)).symm, h.day.trans (upd_n (by omega)).symm, h.seen.trans (upd_n (by omega)).symm, upd_s.symm, h.seed.trans (upd_n (by omega)).symm⟩, ?_, ?_, ?_, ?_⟩
  · exact fun c hc => (h.shift hc).trans (upd_n (by omega)).symm
  · exact fun g hg => ⟨(h.room hg).trans (upd_n (by omega)).symm, (h.wish hg).trans (upd_n (by omega)).symm, (h.doubt hg).trans (upd_n (by omega)).symm, (h.keyz hg).trans (upd_n (by omega)).symm, (h.herez hg).trans (upd_n (by omega)).symm⟩
  · exact fun r hr => (h.holes hr).trans (upd_n (by omega)).symm
  · exact fun j hj => (h.log hj).trans (upd_n (by omega)).symm
theorem RW.up_seed {w : Wd} {m : Nat → Int32} (h : RW w m) (v : Int32) : RW (wd_s_seed w v) (upd m 15 v) := by
  refine ⟨⟨h.texts.trans (upd_n (by omega)).symm, h.guests.trans (upd_n (by omega)).symm, h.bath.trans (upd_n (by omega)).symm, h.kept.trans (upd_n (by omega)).symm, h.masons.trans (upd_n (by omega)).symm, h.stones.trans (upd_n (by omega)).symm, h.towers.trans (upd_n (by omega)).symm, h.bore.trans (upd_n (by omega)).symm, h.day.trans (upd_n (by omega)).symm, h.seen.trans (upd_n (by omega)).symm, h.logged.trans (upd_n (by omega)).symm, upd_s.symm⟩, ?_, ?_, ?_, ?_⟩
  · exact fun c hc => (h.shift hc).trans (upd_n (by omega)).symm
  · exact fun g hg => ⟨(h.room hg).trans (upd_n (by omega)).symm, (h.wish hg).trans (upd_n (by omega)).symm, (h.doubt hg).trans (upd_n (by omega)).symm, (h.keyz hg).trans (upd_n (by omega)).symm, (h.herez hg).trans (upd_n (by omega)).symm⟩
  · exact fun r hr => (h.holes hr).trans (upd_n (by omega)).symm
  · exact fun j hj => (h.log hj).trans (upd_n (by omega)).symm
theorem RW.up_room {w : Wd} {m : Nat → Int32} (h : RW w m) {g0 : Nat} (hg0 : g0 < 8) (v : Int32) : RW (wd_s_room w (upd (wd_room w) g0 v)) (upd m (24 + 5 * g0 + 0) v) := by
  refine ⟨⟨h.texts.trans (upd_n (by omega)).symm, h.guests.trans (upd_n (by omega)).symm, h.bath.trans (upd_n (by omega)).symm, h.kept.trans (upd_n (by omega)).symm, h.masons.trans (upd_n (by omega)).symm, h.stones.trans (upd_n (by omega)).symm, h.towers.trans (upd_n (by omega)).symm, h.bore.trans (upd_n (by omega)).symm, h.day.trans (upd_n (by omega)).symm, h.seen.trans (upd_n (by omega)).symm, h.logged.trans (upd_n (by omega)).symm, h.seed.trans (upd_n (by omega)).symm⟩, ?_, ?_, ?_, ?_⟩
  · exact fun c hc => (h.shift hc).trans (upd_n (by omega)).symm
  · intro g hg
    by_cases e : g = g0
    · subst e
      exact ⟨upd_s.trans upd_s.symm, (h.wish hg).trans (upd_n (by omega)).symm, (h.doubt hg).trans (upd_n (by omega)).symm, (h.keyz hg).trans (upd_n (by omega)).symm, (h.herez hg).trans (upd_n (by omega)).symm⟩
    · exact ⟨(upd_n e).trans ((h.room hg).trans (upd_n (by omega)).symm), (h.wish hg).trans (upd_n (by omega)).symm, (h.doubt hg).trans (upd_n (by omega)).symm, (h.keyz hg).trans (upd_n (by omega)).symm, (h.herez hg).trans (upd_n (by omega)).symm⟩
  · exact fun r hr => (h.holes hr).trans (upd_n (by omega)).symm
  · exact fun j hj => (h.log hj).trans (upd_n (by omega)).symm
theorem RW.up_wish {w : Wd} {m : Nat → Int32} (h : RW w m) {g0 : Nat} (hg0 : g0 < 8) (v : Int32) : RW (wd_s_wish w (upd (wd_wish w) g0 v)) (upd m (24 + 5 * g0 + 1) v) := by
  refine ⟨⟨h.texts.trans (upd_n (by omega)).symm, h.guests.trans (upd_n (by omega)).symm, h.bath.trans (upd_n (by omega)).symm, h.kept.trans (upd_n (by omega)).symm, h.masons.trans (upd_n (by omega)).symm, h.stones.trans (upd_n (by omega)).symm, h.towers.trans (upd_n (by omega)).symm, h.bore.trans (upd_n (by omega)).symm, h.day.trans (upd_n (by omega)).symm, h.seen.trans (upd_n (by omega)).symm, h.logged.trans (upd_n (by omega)).symm, h.seed.trans (upd_n (by omega)).symm⟩, ?_, ?_, ?_, ?_⟩
  · exact fun c hc => (h.shift hc).trans (upd_n (by omega)).symm
  · intro g hg
    by_cases e : g = g0
    · subst e
      exact ⟨(h.room hg).trans (upd_n (by omega)).symm, upd_s.trans upd_s.symm, (h.doubt hg).trans (upd_n (by omega)).symm, (h.keyz hg).trans (upd_n (by omega)).symm, (h.herez hg).trans (upd_n (by omega)).symm⟩
    · exact ⟨(h.room hg).trans (upd_n (by omega)).symm, (upd_n e).trans ((h.wish hg).trans (upd_n (by omega)).symm), (h.doubt hg).trans (upd_n (by omega)).symm, (h.keyz hg).trans (upd_n (by omega)).symm, (h.herez hg).trans (upd_n (by omega)).symm⟩
  · exact fun r hr => (h.holes hr).trans (upd_n (by omega)).symm
  · exact fun j hj => (h.log hj).trans (upd_n (by omega)).symm
theorem RW.up_doubt {w : Wd} {m : Nat → Int32} (h : RW w m) {g0 : Nat} (hg0 : g0 < 8) (v : Int32) : RW (wd_s_doubt w (upd (wd_doubt w) g0 v)) (upd m (24 + 5 * g0 + 2) v) := by
  refine ⟨⟨h.texts.trans (upd_n (by omega)).symm, h.guests.trans (upd_n (by omega)).symm, h.bath.trans (upd_n (by omega)).symm, h.kept.trans (upd_n (by omega)).symm, h.masons.trans (upd_n (by omega)).symm, h.stones.trans (upd_n (by omega)).symm, h.towers.trans (upd_n (by omega)).symm, h.bore.trans (upd_n (by omega)).symm, h.day.trans (upd_n (by omega)).symm, h.seen.trans (upd_n (by omega)).symm, h.logged.trans (upd_n (by omega)).symm, h.seed.trans (upd_n (by omega)).symm⟩, ?_, ?_, ?_, ?_⟩
  · exact fun c hc => (h.shift hc).trans (upd_n (by omega)).symm
  · intro g hg
    by_cases e : g = g0
    · subst e
      exact ⟨(h.room hg).trans (upd_n (by omega)).symm, (h.wish hg).trans (upd_n (by omega)).symm, upd_s.trans upd_s.symm, (h.keyz hg).trans (upd_n (by omega)).symm, (h.herez hg).trans (upd_n (by omega)).symm⟩
    · exact ⟨(h.room hg).trans (upd_n (by omega)).symm, (h.wish hg).trans (upd_n (by omega)).symm, (upd_n e).trans ((h.doubt hg).trans (upd_n (by omega)).symm), (h.keyz hg).trans (upd_n (by omega)).symm, (h.herez hg).trans (upd_n (by omega)).symm⟩
  · exact fun r hr => (h.holes hr).trans (upd_n (by omega)).symm
  · exact fun j hj => (h.log hj).trans (upd_n (by omega)).symm
theorem RW.up_key {w : Wd} {m : Nat → Int32} (h : RW w m) {g0 : Nat} (hg0 : g0 < 8) (v : Bool) : RW (wd_s_key w (updb (wd_key w) g0 v)) (upd m (24 + 5 * g0 + 3) (bz v)) := by
  refine ⟨⟨h.texts.trans (upd_n (by omega)).symm, h.guests.trans (upd_n (by omega)).symm, h.bath.trans (upd_n (by omega)).symm, h.kept.trans (upd_n (by omega)).symm, h.masons.trans (upd_n (by omega)).symm, h.stones.trans (upd_n (by omega)).symm, h.towers.trans (upd_n (by omega)).symm, h.bore.trans (upd_n (by omega)).symm, h.day.trans (upd_n (by omega)).symm, h.seen.trans (upd_n (by omega)).symm, h.logged.trans (upd_n (by omega)).symm, h.seed.trans (upd_n (by omega)).symm⟩, ?_, ?_, ?_, ?_⟩
  · exact fun c hc => (h.shift hc).trans (upd_n (by omega)).symm
  · intro g hg
    by_cases e : g = g0
    · subst e
      exact ⟨(h.room hg).trans (upd_n (by omega)).symm, (h.wish hg).trans (upd_n (by omega)).symm, (h.doubt hg).trans (upd_n (by omega)).symm, (congrArg bz updb_s).trans upd_s.symm, (h.herez hg).trans (upd_n (by omega)).symm⟩
    · exact ⟨(h.room hg).trans (upd_n (by omega)).symm, (h.wish hg).trans (upd_n (by omega)).symm, (h.doubt hg).trans (upd_n (by omega)).symm, (congrArg bz (updb_n e)).trans ((h.keyz hg).trans (upd_n (by omega)).symm), (h.herez hg).trans (upd_n (by omega)).symm⟩
  · exact fun r hr => (h.holes hr).trans (upd_n (by omega)).symm
  · exact fun j hj => (h.log hj).trans (upd_n (by omega)).symm
theorem RW.up_here {w : Wd} {m : Nat → Int32} (h : RW w m) {g0 : Nat} (hg0 : g0 < 8) (v : Bool) : RW (wd_s_here w (updb (wd_here w) g0 v)) (upd m (24 + 5 * g0 + 4) (bz v)) := by
  refine ⟨⟨h.texts.trans (upd_n (by omega)).symm, h.guests.trans (upd_n (by omega)).symm, h.bath.trans (upd_n (by omega)).symm, h.kept.trans (upd_n (by omega)).symm, h.masons.trans (upd_n (by omega)).symm, h.stones.trans (upd_n (by omega)).symm, h.towers.trans (upd_n (by omega)).symm, h.bore.trans (upd_n (by omega)).symm, h.day.trans (upd_n (by omega)).symm, h.seen.trans (upd_n (by omega)).symm, h.logged.trans (upd_n (by omega)).symm, h.seed.trans (upd_n (by omega)).symm⟩, ?_, ?_, ?_, ?_⟩
  · exact fun c hc => (h.shift hc).trans (upd_n (by omega)).symm
  · intro g hg
    by_cases e : g = g0
    · subst e
      exact ⟨(h.room hg).trans (upd_n (by omega)).symm, (h.wish hg).trans (upd_n (by omega)).symm, (h.doubt hg).trans (upd_n (by omega)).symm, (h.keyz hg).trans (upd_n (by omega)).symm, (congrArg bz updb_s).trans upd_s.symm⟩
    · exact ⟨(h.room hg).trans (upd_n (by omega)).symm, (h.wish hg).trans (upd_n (by omega)).symm, (h.doubt hg).trans (upd_n (by omega)).symm, (h.keyz hg).trans (upd_n (by omega)).symm, (congrArg bz (updb_n e)).trans ((h.herez hg).trans (upd_n (by omega)).symm)⟩
  · exact fun r hr => (h.holes hr).trans (upd_n (by omega)).symm
  · exact fun j hj => (h.log hj).trans (upd_n (by omega)).symm
theorem RW.up_holes {w : Wd} {m : Nat → Int32} (h : RW w m) {r0 : Nat} (hr0 : r0 < 8) (v : Int32) : RW (wd_s_holes w (upd (wd_holes w) r0 v)) (upd m (16 + r0) v) := by
  refine ⟨⟨h.texts.trans (upd_n (by omega)).symm, h.guests.trans (upd_n (by omega)).symm, h.bath.trans (upd_n (by omega)).symm, h.kept.trans (upd_n (by omega)).symm, h.masons.trans (upd_n (by omega)).symm, h.stones.trans (upd_n (by omega)).symm, h.towers.trans (upd_n (by omega)).symm, h.bore.trans (upd_n (by omega)).symm, h.day.trans (upd_n (by omega)).symm, h.seen.trans (upd_n (by omega)).symm, h.logged.trans (upd_n (by omega)).symm, h.seed.trans (upd_n (by omega)).symm⟩, ?_, ?_, ?_, ?_⟩
  · exact fun c hc => (h.shift hc).trans (upd_n (by omega)).symm
  · exact fun g hg => ⟨(h.room hg).trans (upd_n (by omega)).symm, (h.wish hg).trans (upd_n (by omega)).symm, (h.doubt hg).trans (upd_n (by omega)).symm, (h.keyz hg).trans (upd_n (by omega)).symm, (h.herez hg).trans (upd_n (by omega)).symm⟩
  · intro r hr
    by_cases e : r = r0
    · subst e
      exact upd_s.trans upd_s.symm
    · exact (upd_n e).trans ((h.holes hr).trans (upd_n (by omega)).symm)
  · exact fun j hj => (h.log hj).trans (upd_n (by omega)).symm
theorem RW.up_shift {w : Wd} {m : Nat → Int32} (h : RW w m) {c0 : Nat} (hc0 : c0 < 2) (v : Int32) : RW (wd_s_shift w (upd (wd_shift w) c0 v)) (upd m (12 + c0) v) := by
  refine ⟨⟨h.texts.trans (upd_n (by omega)).symm, h.guests.trans (upd_n (by omega)).symm, h.bath.trans (upd_n (by omega)).symm, h.kept.trans (upd_n (by omega)).symm, h.masons.trans (upd_n (by omega)).symm, h.stones.trans (upd_n (by omega)).symm, h.towers.trans (upd_n (by omega)).symm, h.bore.trans (upd_n (by omega)).symm, h.day.trans (upd_n (by omega)).symm, h.seen.trans (upd_n (by omega)).symm, h.logged.trans (upd_n (by omega)).symm, h.seed.trans (upd_n (by omega)).symm⟩, ?_, ?_, ?_, ?_⟩
  · intro c hc
    by_cases e : c = c0
    · subst e
      exact upd_s.trans upd_s.symm
    · exact (upd_n e).trans ((h.shift hc).trans (upd_n (by omega)).symm)
  · exact fun g hg => ⟨(h.room hg).trans (upd_n (by omega)).symm, (h.wish hg).trans (upd_n (by omega)).symm, (h.doubt hg).trans (upd_n (by omega)).symm, (h.keyz hg).trans (upd_n (by omega)).symm, (h.herez hg).trans (upd_n (by omega)).symm⟩
  · exact fun r hr => (h.holes hr).trans (upd_n (by omega)).symm
  · exact fun j hj => (h.log hj).trans (upd_n (by omega)).symm
theorem RW.up_law {w : Wd} {m : Nat → Int32} (h : RW w m) (v : Option Nat) : RW (wd_s_law w v) m := h
