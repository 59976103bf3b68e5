/-! noMore that returns -/
set_option maxRecDepth 100000 in
theorem mtX1_noMore_t (l : Launch) (D : va_G) (k : Nat → ClassId) (Z : zZ) (hOK : zOK D zCl (zTys k) Z) (ah : Nat → Nat) (aw : Nat → Nat) (adr : Nat → Nat) (aim : Nat → Nat) (ard : Nat → Nat) (asc : Nat → Nat) (ath : Nat → Nat) (awl : Nat → Nat) (alo : Nat → Nat) (atr : Nat → Nat) (sh : Kp) (p1 p2 : Int32) (hn : ¬ p2 ≤ p1) : CtR l yX1_noMore cX1_noMore 3 none (rLs 0 0 0 0) Z D zCl (cH k ah aw adr aim ard asc ath awl alo atr sh) [.ref (ah 0), .int p1, .int p2] none := by
  refine CtR.of (by decide) (Nat.le_of_ble_eq_true rfl) ?_
  intro p e9 s m args below meth c hE hP hz ls hl
  obtain ⟨hx, hb, hr, hml, hown, hts, hlocks, hname⟩ := hE
  have hown : s.vm.findClass RX1 = some m.cls := hown
  have hK := hOK.1 _ _ _ hz
  have hN := hOK.2.1 _ _ _ hz
  have hl : lv_has ls 3 [(0, .ref (ah 0)), (1, .int p1), (2, .int p2)] := hl
  refine lv_iload_n hx hb dX1_noMore_0 rfl (lv_at hl 1 rfl) ?_
  refine lv_iload_n hx hb dX1_noMore_1 rfl (lv_at hl 2 rfl) ?_
  refine lv_icmp_ge (tgt := 6) hx hb dX1_noMore_2 (by decide) (fun c1 => absurd c1 hn) (fun _ => ?_)
  exact retR_v hx hb hr hlocks rfl dX1_noMore_5
