/-! THE COMPONENT: states and cells of its objects -/
abbrev Wd : Type := Int32 × Int32 × Int32 × Int32 × Int32 × Int32 × Int32 × Int32 × Int32 × Int32 × Int32 × Int32 × (Nat → Int32) × (Nat → Int32) × (Nat → Int32) × (Nat → Int32) × (Nat → Bool) × (Nat → Bool) × (Nat → Int32) × (Nat → Int32) × (Option Nat)
def wd_texts (t : Wd) : Int32 := t.1
def wd_guests (t : Wd) : Int32 := t.2.1
def wd_day (t : Wd) : Int32 := t.2.2.1
def wd_bath (t : Wd) : Int32 := t.2.2.2.1
def wd_kept (t : Wd) : Int32 := t.2.2.2.2.1
def wd_masons (t : Wd) : Int32 := t.2.2.2.2.2.1
def wd_stones (t : Wd) : Int32 := t.2.2.2.2.2.2.1
def wd_towers (t : Wd) : Int32 := t.2.2.2.2.2.2.2.1
def wd_bore (t : Wd) : Int32 := t.2.2.2.2.2.2.2.2.1
def wd_seen (t : Wd) : Int32 := t.2.2.2.2.2.2.2.2.2.1
def wd_logged (t : Wd) : Int32 := t.2.2.2.2.2.2.2.2.2.2.1
def wd_seed (t : Wd) : Int32 := t.2.2.2.2.2.2.2.2.2.2.2.1
def wd_shift (t : Wd) : Nat → Int32 := t.2.2.2.2.2.2.2.2.2.2.2.2.1
def wd_room (t : Wd) : Nat → Int32 := t.2.2.2.2.2.2.2.2.2.2.2.2.2.1
def wd_wish (t : Wd) : Nat → Int32 := t.2.2.2.2.2.2.2.2.2.2.2.2.2.2.1
def wd_doubt (t : Wd) : Nat → Int32 := t.2.2.2.2.2.2.2.2.2.2.2.2.2.2.2.1
def wd_key (t : Wd) : Nat → Bool := t.2.2.2.2.2.2.2.2.2.2.2.2.2.2.2.2.1
def wd_here (t : Wd) : Nat → Bool := t.2.2.2.2.2.2.2.2.2.2.2.2.2.2.2.2.2.1
def wd_holes (t : Wd) : Nat → Int32 := t.2.2.2.2.2.2.2.2.2.2.2.2.2.2.2.2.2.2.1
def wd_log (t : Wd) : Nat → Int32 := t.2.2.2.2.2.2.2.2.2.2.2.2.2.2.2.2.2.2.2.1
def wd_law (t : Wd) : Option Nat := t.2.2.2.2.2.2.2.2.2.2.2.2.2.2.2.2.2.2.2.2
def wd_s_texts (t : Wd) (v : Int32) : Wd := (v, t.2.1, t.2.2.1, t.2.2.2.1, t.2.2.2.2.1, t.2.2.2.2.2.1, t.2.2.2.2.2.2.1, t.2.2.2.2.2.2.2.1, t.2.2.2.2.2.2.2.2.1, t.2.2.2.2.2.2.2.2.2.1, t.2.2.2.2.2.2.2.2.2.2.1, t.2.2.2.2.2.2.2.2.2.2.2.1, t.2.2.2.2.2.2.2.2.2.2.2.2.1, t.2.2.2.2.2.2.2.2.2.2.2.2.2.1, t.2.2.2.2.2.2.2.2.2.2.2.2.2.2.1, t.2.2.2.2.2.2.2.2.2.2.2.2.2.2.2.1, t.2.2.2.2.2.2.2.2.2.2.2.2.2.2.2.2.1, t.2.2.2.2.2.2.2.2.2.2.2.2.2.2.2.2.2.1, t.2.2.2.2.2.2.2.2.2.2.2.2.2.2.2.2.2.2.1, t.2.2.2.2.2.2.2.2.2.2.2.2.2.2.2.2.2.2.2.1, t.2.2.2.2.2.2.2.2.2.2.2.2.2.2.2.2.2.2.2.2)
def wd_s_guests (t : Wd) (v : Int32) : Wd := (t.1, v, t.2.2.1, t.2.2.2.1, t.2.2.2.2.1, t.2.2.2.2.2.1, t.2.2.2.2.2.2.1, t.2.2.2.2.2.2.2.1, t.2.2.2.2.2.2.2.2.1, t.2.2.2.2.2.2.2.2.2.1, t.2.2.2.2.2.2.2.2.2.2.1, t.2.2.2.2.2.2.2.2.2.2.2.1, t.2.2.2.2.2.2.2.2.2.2.2.2.1, t.2.2.2.2.2.2.2.2.2.2.2.2.2.1, t.2.2.2.2.2.2.2.2.2.2.2.2.2.2.1, t.2.2.2.2.2.2.2.2.2.2.2.2.2.2.2.1, t.2.2.2.2.2.2.2.2.2.2.2.2.2.2.2.2.1, t.2.2.2.2.2.2.2.2.2.2.2.2.2.2.2.2.2.1, t.2.2.2.2.2.2.2.2.2.2.2.2.2.2.2.2.2.2.1, t.2.2.2.2.2.2.2.2.2.2.2.2.2.2.2.2.2.2.2.1, t.2.2.2.2.2.2.2.2.2.2.2.2.2.2.2.2.2.2.2.2)
def wd_s_day (t : Wd) (v : Int32) : Wd := (t.1, t.2.1, v, t.2.2.2.1, t.2.2.2.2.1, t.2.2.2.2.2.1, t.2.2.2.2.2.2.1, t.2.2.2.2.2.2.2.1, t.2.2.2.2.2.2.2.2.1, t.2.2.2.2.2.2.2.2.2.1, t.2.2.2.2.2.2.2.2.2.2.1, t.2.2.2.2.2.2.2.2.2.2.2.1, t.2.2.2.2.2.2.2.2.2.2.2.2.1, t.2.2.2.2.2.2.2.2.2.2.2.2.2.1, t.2.2.2.2.2.2.2.2.2.2.2.2.2.2.1, t.2.2.2.2.2.2.2.2.2.2.2.2.2.2.2.1, t.2.2.2.2.2.2.2.2.2.2.2.2.2.2.2.2.1, t.2.2.2.2.2.2.2.2.2.2.2.2.2.2.2.2.2.1, t.2.2.2.2.2.2.2.2.2.2.2.2.2.2.2.2.2.2.1, t.2.2.2.2.2.2.2.2.2.2.2.2.2.2.2.2.2.2.2.1, t.2.2.2.2.2.2.2.2.2.2.2.2.2.2.2.2.2.2.2.2)
def wd_s_bath (t : Wd) (v : Int32) : Wd := (t.1, t.2.1, t.2.2.1, v, t.2.2.2.2.1, t.2.2.2.2.2.1, t.2.2.2.2.2.2.1, t.2.2.2.2.2.2.2.1, t.2.2.2.2.2.2.2.2.1, t.2.2.2.2.2.2.2.2.2.1, t.2.2.2.2.2.2.2.2.2.2.1, t.2.2.2.2.2.2.2.2.2.2.2.1, t.2.2.2.2.2.2.2.2.2.2.2.2.1, t.2.2.2.2.2.2.2.2.2.2.2.2.2.1, t.2.2.2.2.2.2.2.2.2.2.2.2.2.2.1, t.2.2.2.2.2.2.2.2.2.2.2.2.2.2.2.1, t.2.2.2.2.2.2.2.2.2.2.2.2.2.2.2.2.1, t.2.2.2.2.2.2.2.2.2.2.2.2.2.2.2.2.2.1, t.2.2.2.2.2.2.2.2.2.2.2.2.2.2.2.2.2.2.1, t.2.2.2.2.2.2.2.2.2.2.2.2.2.2.2.2.2.2.2.1, t.2.2.2.2.2.2.2.2.2.2.2.2.2.2.2.2.2.2.2.2)
def wd_s_kept (t : Wd) (v : Int32) : Wd := (t.1, t.2.1, t.2.2.1, t.2.2.2.1, v, t.2.2.2.2.2.1, t.2.2.2.2.2.2.1, t.2.2.2.2.2.2.2.1, t.2.2.2.2.2.2.2.2.1, t.2.2.2.2.2.2.2.2.2.1, t.2.2.2.2.2.2.2.2.2.2.1, t.2.2.2.2.2.2.2.2.2.2.2.1, t.2.2.2.2.2.2.2.2.2.2.2.2.1, t.2.2.2.2.2.2.2.2.2.2.2.2.2.1, t.2.2.2.2.2.2.2.2.2.2.2.2.2.2.1, t.2.2.2.2.2.2.2.2.2.2.2.2.2.2.2.1, t.2.2.2.2.2.2.2.2.2.2.2.2.2.2.2.2.1, t.2.2.2.2.2.2.2.2.2.2.2.2.2.2.2.2.2.1, t.2.2.2.2.2.2.2.2.2.2.2.2.2.2.2.2.2.2.1, t.2.2.2.2.2.2.2.2.2.2.2.2.2.2.2.2.2.2.2.1, t.2.2.2.2.2.2.2.2.2.2.2.2.2.2.2.2.2.2.2.2)
def wd_s_masons (t : Wd) (v : Int32) : Wd := (t.1, t.2.1, t.2.2.1, t.2.2.2.1, t.2.2.2.2.1, v, t.2.2.2.2.2.2.1, t.2.2.2.2.2.2.2.1, t.2.2.2.2.2.2.2.2.1, t.2.2.2.2.2.2.2.2.2.1, t.2.2.2.2.2.2.2.2.2.2.1, t.2.2.2.2.2.2.2.2.2.2.2.1, t.2.2.2.2.2.2.2.2.2.2.2.2.1, t.2.2.2.2.2.2.2.2.2.2.2.2.2.1, t.2.2.2.2.2.2.2.2.2.2.2.2.2.2.1, t.2.2.2.2.2.2.2.2.2.2.2.2.2.2.2.1, t.2.2.2.2.2.2.2.2.2.2.2.2.2.2.2.2.1, t.2.2.2.2.2.2.2.2.2.2.2.2.2.2.2.2.2.1, t.2.2.2.2.2.2.2.2.2.2.2.2.2.2.2.2.2.2.1, t.2.2.2.2.2.2.2.2.2.2.2.2.2.2.2.2.2.2.2.1, t.2.2.2.2.2.2.2.2.2.2.2.2.2.2.2.2.2.2.2.2)
def wd_s_stones (t : Wd) (v : Int32) : Wd := (t.1, t.2.1, t.2.2.1, t.2.2.2.1, t.2.2.2.2.1, t.2.2.2.2.2.1, v, t.2.2.2.2.2.2.2.1, t.2.2.2.2.2.2.2.2.1, t.2.2.2.2.2.2.2.2.2.1, t.2.2.2.2.2.2.2.2.2.2.1, t.2.2.2.2.2.2.2.2.2.2.2.1, t.2.2.2.2.2.2.2.2.2.2.2.2.1, t.2.2.2.2.2.2.2.2.2.2.2.2.2.1, t.2.2.2.2.2.2.2.2.2.2.2.2.2.2.1, t.2.2.2.2.2.2.2.2.2.2.2.2.2.2.2.1, t.2.2.2.2.2.2.2.2.2.2.2.2.2.2.2.2.1, t.2.2.2.2.2.2.2.2.2.2.2.2.2.2.2.2.2.1, t.2.2.2.2.2.2.2.2.2.2.2.2.2.2.2.2.2.2.1, t.2.2.2.2.2.2.2.2.2.2.2.2.2.2.2.2.2.2.2.1, t.2.2.2.2.2.2.2.2.2.2.2.2.2.2.2.2.2.2.2.2)
def wd_s_towers (t : Wd) (v : Int32) : Wd := (t.1, t.2.1, t.2.2.1, t.2.2.2.1, t.2.2.2.2.1, t.2.2.2.2.2.1, t.2.2.2.2.2.2.1, v, t.2.2.2.2.2.2.2.2.1, t.2.2.2.2.2.2.2.2.2.1, t.2.2.2.2.2.2.2.2.2.2.1, t.2.2.2.2.2.2.2.2.2.2.2.1, t.2.2.2.2.2.2.2.2.2.2.2.2.1, t.2.2.2.2.2.2.2.2.2.2.2.2.2.1, t.2.2.2.2.2.2.2.2.2.2.2.2.2.2.1, t.2.2.2.2.2.2.2.2.2.2.2.2.2.2.2.1, t.2.2.2.2.2.2.2.2.2.2.2.2.2.2.2.2.1, t.2.2.2.2.2.2.2.2.2.2.2.2.2.2.2.2.2.1, t.2.2.2.2.2.2.2.2.2.2.2.2.2.2.2.2.2.2.1, t.2.2.2.2.2.2.2.2.2.2.2.2.2.2.2.2.2.2.2.1, t.2.2.2.2.2.2.2.2.2.2.2.2.2.2.2.2.2.2.2.2)
def wd_s_bore (t : Wd) (v : Int32) : Wd := (t.1, t.2.1, t.2.2.1, t.2.2.2.1, t.2.2.2.2.1, t.2.2.2.2.2.1, t.2.2.2.2.2.2.1, t.2.2.2.2.2.2.2.1, v, t.2.2.2.2.2.2.2.2.2.1, t.2.2.2.2.2.2.2.2.2.2.1, t.2.2.2.2.2.2.2.2.2.2.2.1, t.2.2.2.2.2.2.2.2.2.2.2.2.1, t.2.2.2.2.2.2.2.2.2.2.2.2.2.1, t.2.2.2.2.2.2.2.2.2.2.2.2.2.2.1, t.2.2.2.2.2.2.2.2.2.2.2.2.2.2.2.1, t.2.2.2.2.2.2.2.2.2.2.2.2.2.2.2.2.1, t.2.2.2.2.2.2.2.2.2.2.2.2.2.2.2.2.2.1, t.2.2.2.2.2.2.2.2.2.2.2.2.2.2.2.2.2.2.1, t.2.2.2.2.2.2.2.2.2.2.2.2.2.2.2.2.2.2.2.1, t.2.2.2.2.2.2.2.2.2.2.2.2.2.2.2.2.2.2.2.2)
def wd_s_seen (t : Wd) (v : Int32) : Wd := (t.1, t.2.1, t.2.2.1, t.2.2.2.1, t.2.2.2.2.1, t.2.2.2.2.2.1, t.2.2.2.2.2.2.1, t.2.2.2.2.2.2.2.1, t.2.2.2.2.2.2.2.2.1, v, t.2.2.2.2.2.2.2.2.2.2.1, t.2.2.2.2.2.2.2.2.2.2.2.1, t.2.2.2.2.2.2.2.2.2.2.2.2.1, t.2.2.2.2.2.2.2.2.2.2.2.2.2.1, t.2.2.2.2.2.2.2.2.2.2.2.2.2.2.1, t.2.2.2.2.2.2.2.2.2.2.2.2.2.2.2.1, t.2.2.2.2.2.2.2.2.2.2.2.2.2.2.2.2.1, t.2.2.2.2.2.2.2.2.2.2.2.2.2.2.2.2.2.1, t.2.2.2.2.2.2.2.2.2.2.2.2.2.2.2.2.2.2.1, t.2.2.2.2.2.2.2.2.2.2.2.2.2.2.2.2.2.2.2.1, t.2.2.2.2.2.2.2.2.2.2.2.2.2.2.2.2.2.2.2.2)
def wd_s_logged (t : Wd) (v : Int32) : Wd := (t.1, t.2.1, t.2.2.1, t.2.2.2.1, t.2.2.2.2.1, t.2.2.2.2.2.1, t.2.2.2.2.2.2.1, t.2.2.2.2.2.2.2.1, t.2.2.2.2.2.2.2.2.1, t.2.2.2.2.2.2.2.2.2.1, v, t.2.2.2.2.2.2.2.2.2.2.2.1, t.2.2.2.2.2.2.2.2.2.2.2.2.1, t.2.2.2.2.2.2.2.2.2.2.2.2.2.1, t.2.2.2.2.2.2.2.2.2.2.2.2.2.2.1, t.2.2.2.2.2.2.2.2.2.2.2.2.2.2.2.1, t.2.2.2.2.2.2.2.2.2.2.2.2.2.2.2.2.1, t.2.2.2.2.2.2.2.2.2.2.2.2.2.2.2.2.2.1, t.2.2.2.2.2.2.2.2.2.2.2.2.2.2.2.2.2.2.1, t.2.2.2.2.2.2.2.2.2.2.2.2.2.2.2.2.2.2.2.1, t.2.2.2.2.2.2.2.2.2.2.2.2.2.2.2.2.2.2.2.2)
def wd_s_seed (t : Wd) (v : Int32) : Wd := (t.1, t.2.1, t.2.2.1, t.2.2.2.1, t.2.2.2.2.1, t.2.2.2.2.2.1, t.2.2.2.2.2.2.1, t.2.2.2.2.2.2.2.1, t.2.2.2.2.2.2.2.2.1, t.2.2.2.2.2.2.2.2.2.1, t.2.2.2.2.2.2.2.2.2.2.1, v, t.2.2.2.2.2.2.2.2.2.2.2.2.1, t.2.2.2.2.2.2.2.2.2.2.2.2.2.1, t.2.2.2.2.2.2.2.2.2.2.2.2.2.2.1, t.2.2.2.2.2.2.2.2.2.2.2.2.2.2.2.1, t.2.2.2.2.2.2.2.2.2.2.2.2.2.2.2.2.1, t.2.2.2.2.2.2.2.2.2.2.2.2.2.2.2.2.2.1, t.2.2.2.2.2.2.2.2.2.2.2.2.2.2.2.2.2.2.1, t.2.2.2.2.2.2.2.2.2.2.2.2.2.2.2.2.2.2.2.1, t.2.2.2.2.2.2.2.2.2.2.2.2.2.2.2.2.2.2.2.2)
def wd_s_shift (t : Wd) (v : Nat → Int32) : Wd := (t.1, t.2.1, t.2.2.1, t.2.2.2.1, t.2.2.2.2.1, t.2.2.2.2.2.1, t.2.2.2.2.2.2.1, t.2.2.2.2.2.2.2.1, t.2.2.2.2.2.2.2.2.1, t.2.2.2.2.2.2.2.2.2.1, t.2.2.2.2.2.2.2.2.2.2.1, t.2.2.2.2.2.2.2.2.2.2.2.1, v, t.2.2.2.2.2.2.2.2.2.2.2.2.2.1, t.2.2.2.2.2.2.2.2.2.2.2.2.2.2.1, t.2.2.2.2.2.2.2.2.2.2.2.2.2.2.2.1, t.2.2.2.2.2.2.2.2.2.2.2.2.2.2.2.2.1, t.2.2.2.2.2.2.2.2.2.2.2.2.2.2.2.2.2.1, t.2.2.2.2.2.2.2.2.2.2.2.2.2.2.2.2.2.2.1, t.2.2.2.2.2.2.2.2.2.2.2.2.2.2.2.2.2.2.2.1, t.2.2.2.2.2.2.2.2.2.2.2.2.2.2.2.2.2.2.2.2)
def wd_s_room (t : Wd) (v : Nat → Int32) : Wd := (t.1, t.2.1, t.2.2.1, t.2.2.2.1, t.2.2.2.2.1, t.2.2.2.2.2.1, t.2.2.2.2.2.2.1, t.2.2.2.2.2.2.2.1, t.2.2.2.2.2.2.2.2.1, t.2.2.2.2.2.2.2.2.2.1, t.2.2.2.2.2.2.2.2.2.2.1, t.2.2.2.2.2.2.2.2.2.2.2.1, t.2.2.2.2.2.2.2.2.2.2.2.2.1, v, t.2.2.2.2.2.2.2.2.2.2.2.2.2.2.1, t.2.2.2.2.2.2.2.2.2.2.2.2.2.2.2.1, t.2.2.2.2.2.2.2.2.2.2.2.2.2.2.2.2.1, t.2.2.2.2.2.2.2.2.2.2.2.2.2.2.2.2.2.1, t.2.2.2.2.2.2.2.2.2.2.2.2.2.2.2.2.2.2.1, t.2.2.2.2.2.2.2.2.2.2.2.2.2.2.2.2.2.2.2.1, t.2.2.2.2.2.2.2.2.2.2.2.2.2.2.2.2.2.2.2.2)
def wd_s_wish (t : Wd) (v : Nat → Int32) : Wd := (t.1, t.2.1, t.2.2.1, t.2.2.2.1, t.2.2.2.2.1, t.2.2.2.2.2.1, t.2.2.2.2.2.2.1, t.2.2.2.2.2.2.2.1, t.2.2.2.2.2.2.2.2.1, t.2.2.2.2.2.2.2.2.2.1, t.2.2.2.2.2.2.2.2.2.2.1, t.2.2.2.2.2.2.2.2.2.2.2.1, t.2.2.2.2.2.2.2.2.2.2.2.2.1, t.2.2.2.2.2.2.2.2.2.2.2.2.2.1, v, t.2.2.2.2.2.2.2.2.2.2.2.2.2.2.2.1, t.2.2.2.2.2.2.2.2.2.2.2.2.2.2.2.2.1, t.2.2.2.2.2.2.2.2.2.2.2.2.2.2.2.2.2.1, t.2.2.2.2.2.2.2.2.2.2.2.2.2.2.2.2.2.2.1, t.2.2.2.2.2.2.2.2.2.2.2.2.2.2.2.2.2.2.2.1, t.2.2.2.2.2.2.2.2.2.2.2.2.2.2.2.2.2.2.2.2)
def wd_s_doubt (t : Wd) (v : Nat → Int32) : Wd := (t.1, t.2.1, t.2.2.1, t.2.2.2.1, t.2.2.2.2.1, t.2.2.2.2.2.1, t.2.2.2.2.2.2.1, t.2.2.2.2.2.2.2.1, t.2.2.2.2.2.2.2.2.1, t.2.2.2.2.2.2.2.2.2.1, t.2.2.2.2.2.2.2.2.2.2.1, t.2.2.2.2.2.2.2.2.2.2.2.1, t.2.2.2.2.2.2.2.2.2.2.2.2.1, t.2.2.2.2.2.2.2.2.2.2.2.2.2.1, t.2.2.2.2.2.2.2.2.2.2.2.2.2.2.1, v, t.2.2.2.2.2.2.2.2.2.2.2.2.2.2.2.2.1, t.2.2.2.2.2.2.2.2.2.2.2.2.2.2.2.2.2.1, t.2.2.2.2.2.2.2.2.2.2.2.2.2.2.2.2.2.2.1, t.2.2.2.2.2.2.2.2.2.2.2.2.2.2.2.2.2.2.2.1, t.2.2.2.2.2.2.2.2.2.2.2.2.2.2.2.2.2.2.2.2)
def wd_s_key (t : Wd) (v : Nat → Bool) : Wd := (t.1, t.2.1, t.2.2.1, t.2.2.2.1, t.2.2.2.2.1, t.2.2.2.2.2.1, t.2.2.2.2.2.2.1, t.2.2.2.2.2.2.2.1, t.2.2.2.2.2.2.2.2.1, t.2.2.2.2.2.2.2.2.2.1, t.2.2.2.2.2.2.2.2.2.2.1, t.2.2.2.2.2.2.2.2.2.2.2.1, t.2.2.2.2.2.2.2.2.2.2.2.2.1, t.2.2.2.2.2.2.2.2.2.2.2.2.2.1, t.2.2.2.2.2.2.2.2.2.2.2.2.2.2.1, t.2.2.2.2.2.2.2.2.2.2.2.2.2.2.2.1, v, t.2.2.2.2.2.2.2.2.2.2.2.2.2.2.2.2.2.1, t.2.2.2.2.2.2.2.2.2.2.2.2.2.2.2.2.2.2.1, t.2.2.2.2.2.2.2.2.2.2.2.2.2.2.2.2.2.2.2.1, t.2.2.2.2.2.2.2.2.2.2.2.2.2.2.2.2.2.2.2.2)
def wd_s_here (t : Wd) (v : Nat → Bool) : Wd := (t.1, t.2.1, t.2.2.1, t.2.2.2.1, t.2.2.2.2.1, t.2.2.2.2.2.1, t.2.2.2.2.2.2.1, t.2.2.2.2.2.2.2.1, t.2.2.2.2.2.2.2.2.1, t.2.2.2.2.2.2.2.2.2.1, t.2.2.2.2.2.2.2.2.2.2.1, t.2.2.2.2.2.2.2.2.2.2.2.1, t.2.2.2.2.2.2.2.2.2.2.2.2.1, t.2.2.2.2.2.2.2.2.2.2.2.2.2.1, t.2.2.2.2.2.2.2.2.2.2.2.2.2.2.1, t.2.2.2.2.2.2.2.2.2.2.2.2.2.2.2.1, t.2.2.2.2.2.2.2.2.2.2.2.2.2.2.2.2.1, v, t.2.2.2.2.2.2.2.2.2.2.2.2.2.2.2.2.2.2.1, t.2.2.2.2.2.2.2.2.2.2.2.2.2.2.2.2.2.2.2.1, t.2.2.2.2.2.2.2.2.2.2.2.2.2.2.2.2.2.2.2.2)
def wd_s_holes (t : Wd) (v : Nat → Int32) : Wd := (t.1, t.2.1, t.2.2.1, t.2.2.2.1, t.2.2.2.2.1, t.2.2.2.2.2.1, t.2.2.2.2.2.2.1, t.2.2.2.2.2.2.2.1, t.2.2.2.2.2.2.2.2.1, t.2.2.2.2.2.2.2.2.2.1, t.2.2.2.2.2.2.2.2.2.2.1, t.2.2.2.2.2.2.2.2.2.2.2.1, t.2.2.2.2.2.2.2.2.2.2.2.2.1, t.2.2.2.2.2.2.2.2.2.2.2.2.2.1, t.2.2.2.2.2.2.2.2.2.2.2.2.2.2.1, t.2.2.2.2.2.2.2.2.2.2.2.2.2.2.2.1, t.2.2.2.2.2.2.2.2.2.2.2.2.2.2.2.2.1, t.2.2.2.2.2.2.2.2.2.2.2.2.2.2.2.2.2.1, v, t.2.2.2.2.2.2.2.2.2.2.2.2.2.2.2.2.2.2.2.1, t.2.2.2.2.2.2.2.2.2.2.2.2.2.2.2.2.2.2.2.2)
def wd_s_log (t : Wd) (v : Nat → Int32) : Wd := (t.1, t.2.1, t.2.2.1, t.2.2.2.1, t.2.2.2.2.1, t.2.2.2.2.2.1, t.2.2.2.2.2.2.1, t.2.2.2.2.2.2.2.1, t.2.2.2.2.2.2.2.2.1, t.2.2.2.2.2.2.2.2.2.1, t.2.2.2.2.2.2.2.2.2.2.1, t.2.2.2.2.2.2.2.2.2.2.2.1, t.2.2.2.2.2.2.2.2.2.2.2.2.1, t.2.2.2.2.2.2.2.2.2.2.2.2.2.1, t.2.2.2.2.2.2.2.2.2.2.2.2.2.2.1, t.2.2.2.2.2.2.2.2.2.2.2.2.2.2.2.1, t.2.2.2.2.2.2.2.2.2.2.2.2.2.2.2.2.1, t.2.2.2.2.2.2.2.2.2.2.2.2.2.2.2.2.2.1, t.2.2.2.2.2.2.2.2.2.2.2.2.2.2.2.2.2.2.1, v, t.2.2.2.2.2.2.2.2.2.2.2.2.2.2.2.2.2.2.2.2)
def wd_s_law (t : Wd) (v : Option Nat) : Wd := (t.1, t.2.1, t.2.2.1, t.2.2.2.1, t.2.2.2.2.1, t.2.2.2.2.2.1, t.2.2.2.2.2.2.1, t.2.2.2.2.2.2.2.1, t.2.2.2.2.2.2.2.2.1, t.2.2.2.2.2.2.2.2.2.1, t.2.2.2.2.2.2.2.2.2.2.1, t.2.2.2.2.2.2.2.2.2.2.2.1, t.2.2.2.2.2.2.2.2.2.2.2.2.1, t.2.2.2.2.2.2.2.2.2.2.2.2.2.1, t.2.2.2.2.2.2.2.2.2.2.2.2.2.2.1, t.2.2.2.2.2.2.2.2.2.2.2.2.2.2.2.1, t.2.2.2.2.2.2.2.2.2.2.2.2.2.2.2.2.1, t.2.2.2.2.2.2.2.2.2.2.2.2.2.2.2.2.2.1, t.2.2.2.2.2.2.2.2.2.2.2.2.2.2.2.2.2.2.1, t.2.2.2.2.2.2.2.2.2.2.2.2.2.2.2.2.2.2.2.1, v)
def cW (k : Nat → ClassId) (a : Nat → Nat) (t : Wd) : va_W := [(a 0, .inr (2, [.int (wd_texts t), .int (wd_guests t), .int (wd_day t), .int (wd_bath t), .int (wd_kept t), .int (wd_masons t), .int (wd_stones t), .int (wd_towers t), .int (wd_bore t), .int (wd_seen t), .int (wd_logged t), .int (wd_seed t), .ref (a 1), .ref (a 2), .ref (a 3), .ref (a 4), .ref (a 5), .ref (a 6), .ref (a 7), .ref (a 8), va_rf (wd_law t)])),
  (a 1, .inl (k 0, 2, .inl (wd_shift t))),
  (a 2, .inl (k 0, 8, .inl (wd_room t))),
  (a 3, .inl (k 0, 8, .inl (wd_wish t))),
  (a 4, .inl (k 0, 8, .inl (wd_doubt t))),
  (a 5, .inl (k 1, 8, .inl (fun i => bz (wd_key t i)))),
  (a 6, .inl (k 1, 8, .inl (fun i => bz (wd_here t i)))),
  (a 7, .inl (k 0, 8, .inl (wd_holes t))),
  (a 8, .inl (k 0, 240, .inl (wd_log t)))]
abbrev Rd : Type := (Nat → Int32) × Int32 × Int32 × Int32 × Int32 × Int32 × Int32
def rd_tape (t : Rd) : Nat → Int32 := t.1
def rd_length (t : Rd) : Int32 := t.2.1
def rd_end_ (t : Rd) : Int32 := t.2.2.1
def rd_at_ (t : Rd) : Int32 := t.2.2.2.1
def rd_begin (t : Rd) : Int32 := t.2.2.2.2.1
def rd_fault (t : Rd) : Int32 := t.2.2.2.2.2.1
def rd_deep (t : Rd) : Int32 := t.2.2.2.2.2.2
def rd_s_tape (t : Rd) (v : Nat → Int32) : Rd := (v, t.2.1, t.2.2.1, t.2.2.2.1, t.2.2.2.2.1, t.2.2.2.2.2.1, t.2.2.2.2.2.2)
def rd_s_length (t : Rd) (v : Int32) : Rd := (t.1, v, t.2.2.1, t.2.2.2.1, t.2.2.2.2.1, t.2.2.2.2.2.1, t.2.2.2.2.2.2)
def rd_s_end_ (t : Rd) (v : Int32) : Rd := (t.1, t.2.1, v, t.2.2.2.1, t.2.2.2.2.1, t.2.2.2.2.2.1, t.2.2.2.2.2.2)
def rd_s_at_ (t : Rd) (v : Int32) : Rd := (t.1, t.2.1, t.2.2.1, v, t.2.2.2.2.1, t.2.2.2.2.2.1, t.2.2.2.2.2.2)
def rd_s_begin (t : Rd) (v : Int32) : Rd := (t.1, t.2.1, t.2.2.1, t.2.2.2.1, v, t.2.2.2.2.2.1, t.2.2.2.2.2.2)
def rd_s_fault (t : Rd) (v : Int32) : Rd := (t.1, t.2.1, t.2.2.1, t.2.2.2.1, t.2.2.2.2.1, v, t.2.2.2.2.2.2)
def rd_s_deep (t : Rd) (v : Int32) : Rd := (t.1, t.2.1, t.2.2.1, t.2.2.2.1, t.2.2.2.2.1, t.2.2.2.2.2.1, v)
def cR (k : Nat → ClassId) (a : Nat → Nat) (t : Rd) : va_W := [(a 0, .inr (3, [.ref (a 1), .int (rd_length t), .int (rd_end_ t), .int (rd_at_ t), .int (rd_begin t), .int (rd_fault t), .int (rd_deep t)])),
  (a 1, .inl (k 2, 400, .inl (rd_tape t)))]
abbrev Sc : Type := Int32 × Int32 × Int32 × Int32 × Int32 × Int32 × Int32 × Bool × Bool
def sc_guest (t : Sc) : Int32 := t.1
def sc_room (t : Sc) : Int32 := t.2.1
def sc_wish (t : Sc) : Int32 := t.2.2.1
def sc_doubted (t : Sc) : Int32 := t.2.2.2.1
def sc_towers (t : Sc) : Int32 := t.2.2.2.2.1
def sc_holes (t : Sc) : Int32 := t.2.2.2.2.2.1
def sc_week (t : Sc) : Int32 := t.2.2.2.2.2.2.1
def sc_key (t : Sc) : Bool := t.2.2.2.2.2.2.2.1
def sc_eve (t : Sc) : Bool := t.2.2.2.2.2.2.2.2
def sc_s_guest (t : Sc) (v : Int32) : Sc := (v, t.2.1, t.2.2.1, t.2.2.2.1, t.2.2.2.2.1, t.2.2.2.2.2.1, t.2.2.2.2.2.2.1, t.2.2.2.2.2.2.2.1, t.2.2.2.2.2.2.2.2)
def sc_s_room (t : Sc) (v : Int32) : Sc := (t.1, v, t.2.2.1, t.2.2.2.1, t.2.2.2.2.1, t.2.2.2.2.2.1, t.2.2.2.2.2.2.1, t.2.2.2.2.2.2.2.1, t.2.2.2.2.2.2.2.2)
def sc_s_wish (t : Sc) (v : Int32) : Sc := (t.1, t.2.1, v, t.2.2.2.1, t.2.2.2.2.1, t.2.2.2.2.2.1, t.2.2.2.2.2.2.1, t.2.2.2.2.2.2.2.1, t.2.2.2.2.2.2.2.2)
def sc_s_doubted (t : Sc) (v : Int32) : Sc := (t.1, t.2.1, t.2.2.1, v, t.2.2.2.2.1, t.2.2.2.2.2.1, t.2.2.2.2.2.2.1, t.2.2.2.2.2.2.2.1, t.2.2.2.2.2.2.2.2)
def sc_s_towers (t : Sc) (v : Int32) : Sc := (t.1, t.2.1, t.2.2.1, t.2.2.2.1, v, t.2.2.2.2.2.1, t.2.2.2.2.2.2.1, t.2.2.2.2.2.2.2.1, t.2.2.2.2.2.2.2.2)
def sc_s_holes (t : Sc) (v : Int32) : Sc := (t.1, t.2.1, t.2.2.1, t.2.2.2.1, t.2.2.2.2.1, v, t.2.2.2.2.2.2.1, t.2.2.2.2.2.2.2.1, t.2.2.2.2.2.2.2.2)
def sc_s_week (t : Sc) (v : Int32) : Sc := (t.1, t.2.1, t.2.2.1, t.2.2.2.1, t.2.2.2.2.1, t.2.2.2.2.2.1, v, t.2.2.2.2.2.2.2.1, t.2.2.2.2.2.2.2.2)
def sc_s_key (t : Sc) (v : Bool) : Sc := (t.1, t.2.1, t.2.2.1, t.2.2.2.1, t.2.2.2.2.1, t.2.2.2.2.2.1, t.2.2.2.2.2.2.1, v, t.2.2.2.2.2.2.2.2)
def sc_s_eve (t : Sc) (v : Bool) : Sc := (t.1, t.2.1, t.2.2.1, t.2.2.2.1, t.2.2.2.2.1, t.2.2.2.2.2.1, t.2.2.2.2.2.2.1, t.2.2.2.2.2.2.2.1, v)
def cS (k : Nat → ClassId) (a : Nat → Nat) (t : Sc) : va_W := [(a 0, .inr (4, [.int (sc_guest t), .int (sc_room t), .int (sc_wish t), .int (sc_doubted t), .int (sc_towers t), .int (sc_holes t), .int (sc_week t), .int (bz (sc_key t)), .int (bz (sc_eve t))]))]
abbrev Lo : Type := (Nat → Int32)
def lo_least (t : Lo) : Nat → Int32 := t
def lo_s_least (t : Lo) (v : Nat → Int32) : Lo := (v)
def cL (k : Nat → ClassId) (a : Nat → Nat) (ah : Nat) (t : Lo) : va_W := [(a 0, .inr (5, [.ref (a 1), .ref (ah)])),
  (a 1, .inl (k 0, 2304, .inl (lo_least t)))]
abbrev Kp : Type := Bool
def kp_hasImage (t : Kp) : Bool := t
def kp_s_hasImage (t : Kp) (v : Bool) : Kp := (v)
def cH (k : Nat → ClassId) (a : Nat → Nat) (aw adr aim ard asc ath awl alo atr : Nat → Nat) (t : Kp) : va_W := [(a 0, .inr (1, [.ref (aw 0), .ref (adr 0), .ref (aim 0), .int (bz (kp_hasImage t)), .ref (ard 0), .ref (asc 0), .ref (ath 0), .ref (awl 0), .ref (alo 0), .ref (atr 0)]))]
def zmx (x y : Int32) : Int32 := if x < y then y else x
def zmn (x y : Int32) : Int32 := if y < x then y else x
theorem bz_cpy (f g : Nat → Bool) (sp dp n : Nat) : va_cpy (fun i => bz (f i)) (fun i => bz (g i)) sp dp n = fun i => bz (va_cpy f g sp dp n i) := by
  funext i
  unfold va_cpy
  split <;> rfl
def rX2_row : Room := { frames := 1, cells := 0, slots := 0, locals := 60 }
theorem kX2_row {R : Room} {s : State} {args : Array Value} {own : String} {idx mc ms : Nat} {rm : Room} (hts : ∀ w ∈ lw_all, w.before args s = true) (hl : Cond.methodLink own idx yX2_row ∈ lw_all) (hrc : rm.cells = mc) (hrs : rm.slots = ms) (hR : rm.frames + 1 ≤ R.frames ∧ 8 + (2 + 11) + rm.locals ≤ R.locals) : CallB R s args own idx yX2_row cX2_row 2 none (ws_ yX2_row cX2_row 2 none) rm mc ms 2 ∧ (Cond.static yX2_row).before args s = true :=
  va_cwS 2 hts (lw_S hl q439 q108 q440) rfl hrc hrs (by decide +kernel) hR
set_option maxRecDepth 100000 in
theorem mtX2_row (l : Launch) (D : va_G) (k : Nat → ClassId) (Z : zZ) (hOK : zOK D zCl (zTys k) Z) (a b n : Nat) (f g : Nat → Int32) (hn : n < 2 ^ 31) : CtW l yX2_row cX2_row 2 none rX2_row Z D zCl [(a, .inl (k 0, n, .inl f)), (b, .inl (k 0, n, .inl g))] [.ref a, .ref b] (fun r' w' => r' = none ∧ w' = [(a, .inl (k 0, n, .inl f)), (b, .inl (k 0, n, .inl (va_cpy f g 0 0 n)))]) 0 0 := by
  refine CtW.of (by decide) (Nat.le_of_ble_eq_true rfl) ?_
  intro p e s m args below meth c A hE hA hP hD hS hz ls hl
  obtain ⟨hx, hb, hr, hml, hown, hts, hlocks, hname⟩ := hE
  have hown : s.vm.findClass RX2 = some m.cls := hown
  have hK := hOK.1 _ _ _ hz
  have hl : lv_has ls 2 [(0, .ref a), (1, .ref b)] := hl
  refine lv_aload_n hx hb dX2_row_0 rfl (lv_at hl 0 rfl) ?_
  refine lv_iconst (v := (0 : Int32)) hx hb dX2_row_1 (by decide) ?_
  refine lv_aload_n hx hb dX2_row_2 rfl (lv_at hl 1 rfl) ?_
  refine lv_iconst (v := (0 : Int32)) hx hb dX2_row_3 (by decide) ?_
  refine lv_aload_n hx hb dX2_row_4 rfl (lv_at hl 1 rfl) ?_
  refine va_alen (v := nI n) hx hb hK hP 1 0 rfl rfl rfl dX2_row_5 ?_
  have e0 : (0 : Int32).toNatClampNeg = 0 := by decide
  have e1 : (nI n).toNatClampNeg = n := nI_clamp hn
  refine va_copyi (ty := .int) hx hb (hml.trans hl.1.symm) hown (hts _ q441) (hts _ q443) (hts _ q442) (hts _ q116) hK hP hD hS 0 1 0 0 rfl rfl rfl rfl rfl (by decide) (by decide) (nI_pos hn) (by rw [e0, e1]; omega) (by rw [e0, e1]; omega) (fun _ _ => rfl) (Nat.le_of_ble_eq_true rfl) (Nat.le_of_ble_eq_true rfl) dX2_row_6 (fun H locs hP hD hS => ?_)
  rw [e0, e1] at hP hD
  exact retW_v hx hb hr hlocks hP hD hS ⟨rfl, rfl⟩ dX2_row_9
section ZROW
variable {p : Program} {l : Launch} {e : Env} {R : Room} {s : State} {m : MethodId} {args : Array Value} {below : List Frame} {meth : Method} {c : Code} {H : Heap} {locs : List Loc} {cells slots : Nat} {Q : State → Prop}
variable {pc : Nat} {ls : Array Slot} {rest : List Value} {D : va_G} {k : Nat → ClassId} {Z : zZ} {A : Nat → Prop} {ws : va_W} {cc : ByteArray} {own : String} {nL index a b n : Nat} {f g : Nat → Int32}
/-- a call of World.row, on two of my cells -/
theorem cRow (S : CallFix p m c cc nL s args lw_all own) (hOK : zOK D zCl (zTys k) Z) (hz : Z A s s.heap) (hS : va_S A s.heap H locs) (hA : ∀ q : Nat, s.heap.size ≤ q → A q) (hP : va_P D zCl ws H) (hD : va_D A ws) (q1 q2 : Nat) (h1 : ws[q1]? = some (a, .inl (k 0, n, .inl f))) (h2 : ws[q2]? = some (b, .inl (k 0, n, .inl g))) (hne : q1 ≠ q2) (hn : n < 2 ^ 31)
    (cw : CallB R s args own index yX2_row cX2_row 2 none (ws_ yX2_row cX2_row 2 none) rX2_row 0 0 2 ∧ (Cond.static yX2_row).before args s = true) (hl : ls.size = nL) (hW : 2 * (F0 m pc ls (.ref b :: .ref a :: rest)).monitorRoom + (rest.map fun v => v.category).sum ≤ 8) (hf : cells ≤ R.cells ∧ slots ≤ R.slots) (hdg : decode cc pc = .ok (.invokestatic index, 3))
    (kk : ∀ (H1 : Heap) (locs1 : List Loc), va_P D zCl (ws.set q2 (b, .inl (k 0, n, .inl (va_cpy f g 0 0 n)))) H1 → va_D A (ws.set q2 (b, .inl (k 0, n, .inl (va_cpy f g 0 0 n)))) → va_S A s.heap H1 locs1 → W p l e R s m args below meth c H1 locs1 cells slots Q (F0 m (pc + 3) ls rest)) : W p l e R s m args below meth c H locs cells slots Q (F0 m pc ls (.ref b :: .ref a :: rest)) := by
  have hab : a ≠ b := fun e => hne (hD.1 q1 q2 _ _ h1 h2 e)
  have hPc : va_P D zCl [(a, .inl (k 0, n, .inl f)), (b, .inl (k 0, n, .inl g))] H := hP.sub [q1, q2] (by simp [h1, h2])
  have hDc : va_D A [(a, .inl (k 0, n, .inl f)), (b, .inl (k 0, n, .inl g))] := hD.sub [q1, q2] (by simp [va_nd, hne]) (by simp [h1, h2])
  have hF : ∀ q, va_A [(a, .inl (k 0, n, .inl f)), (b, .inl (k 0, n, .inl g))] H.size q → A q := by
    intro q h
    rcases h with ⟨i, e, h⟩ | h
    · exact hDc.2 i _ h
    · exact hA q (Nat.le_trans hS.1 h)
  have hr := va_runS (e := e) (below := below) (meth := meth) (locs := locs) (R := R) (H := H) (As := [.ref a, .ref b]) (rest := rest) (g := F0 m pc ls (.ref b :: .ref a :: rest)) S (mtX2_row l D k Z hOK a b n f g hn H.size) cw ⟨blindW hOK, fun U hU hW => by
    subst hU
    exact ⟨rfl, rfl, hPc, hOK.2.2.1 _ _ _ _ hW (hOK.2.2.2.2.2 _ _ _ _ hF (hOK.2.2.2.2.1 _ _ _ _ hS.2.1 hz)), hDc.1, fun _ _ _ => trivial⟩⟩ rfl rfl hl rfl hW hdg hf
  intro T hT X
  obtain ⟨v, st₀, t, T', L, h0, X', hL, e1, e2, ⟨⟨r, ws', hv, ⟨hp1, hp2⟩, hP1, hD1⟩, hz', hk⟩, st⟩ := hr T hT X
  cases hv
  subst hp1; subst hp2
  rw [h0] at hz' hk
  have l2 := (List.getElem?_eq_some_iff.mp h2).1
  have hPn : va_P D zCl (ws.set q2 (b, .inl (k 0, n, .inl (va_cpy f g 0 0 n)))) T'.heap := by
    intro i q hi
    rw [e1]
    by_cases hi2 : i = q2
    · subst hi2
      rw [List.getElem?_set_self l2] at hi
      cases hi
      exact hP1 1 _ rfl
    · rw [List.getElem?_set_ne (Ne.symm hi2)] at hi
      by_cases hi1 : i = q1
      · subst hi1
        rw [h1] at hi
        cases hi
        exact hP1 0 _ rfl
      · refine (hP i q hi).kept (hk q.1 (hP i q hi).lt (fun z => ?_))
        rcases z with ⟨j, e, z⟩ | z
        · match j, z with
          | 0, z => cases z; exact hi1 (hD.1 i q1 q _ hi h1 rfl)
          | 1, z => cases z; exact hi2 (hD.1 i q2 q _ hi h2 rfl)
          | j + 2, z => simp at z
        · exact Nat.not_le.mpr (hP i q hi).lt z
  obtain ⟨t2, a1, b1⟩ := kk T'.heap (locs ++ L) hPn (hD.set h2)
    ⟨Nat.le_trans hS.1 (by rw [e1]; exact hz'), fun q g1 g2 => by rw [e1, hk q (Nat.lt_of_lt_of_le g1 hS.1) (fun z => g2 (hF q z))]; exact hS.2.1 q g1 g2, fun q hq => by
      rcases List.mem_append.mp hq with h | h
      · exact hS.2.2 q h
      · exact hF _ (hL q h)⟩ T' rfl X'
  exact ⟨t2, st t2 a1, b1⟩
end ZROW
