/-! CALLS, XII: no bus is told (printed by gen/nobus.py) -/
set_option maxRecDepth 100000
def pz_G (x : Option (Int32 × ol_Xm)) (m : Option (Int32 × ol_Mm)) : Prop := ∃ z σ' τ', x = some (z, σ') ∧ m = some (z, τ') ∧ pz_T σ' τ' ∧ pz_N σ' τ'
section PCX
variable {σ σ' : ol_Xm} {τ τ' : ol_Mm}
theorem pz_N.of (h : pz_N σ τ) (hx : pz_FX σ σ') (hm : pz_FM τ τ') : pz_N σ' τ' := by
  obtain ⟨h0, h9, h21, h11, hl⟩ := h
  refine ⟨h0.of (fun c k hc => hx.1 c k (by omega) (by omega)) hm, (hm.1 9 (by omega)).trans h9, (hm.1 21 (by omega)).trans h21, (hx.1 0 11 (by omega) (by omega)).trans h11, fun i hi => ⟨(hx.1 15 i (by omega) (by omega)).trans (hl i hi).1, ?_⟩⟩
  rw [hm.2.2.2.1]
  exact (hl i hi).2
theorem pn_no (h : pz_N σ τ) {z w : Int32} (hw : ¬ w = 4) : pz_G (some (z, pz_x σ w)) (some (z, pz_m τ w)) := ⟨z, _, _, rfl, rfl, pz_xT w hw mx_eq, h.of (pz_FX.rf.end _ _) (pz_mF w)⟩
theorem pn_brd (h : pz_N σ τ) (x : Int32) : oX4_isBoard τ x = some 0 := by
  unfold oX4_isBoard
  rw [h.2.1]
  rfl
theorem pn_why (h : pz_N σ τ) (a b c d : Int32) : oX4_passWhy τ a b c d = some 1 := by
  unfold oX4_passWhy
  rw [h.2.1]
  rfl
theorem pn_about (h : pz_N σ τ) (x1 : Int32) : pz_G (onX1_about σ x1) (oX4_about τ x1) := by
  have em : oX4_about τ x1 = some (-1, pz_m τ 1) := by
    unfold oX4_about
    rw [h.2.1]
    rfl
  rw [show onX1_about σ x1 = some (-1, pz_x σ 1) from rfl, em]
  exact pn_no h (by decide)
theorem pn_now (h : pz_N σ τ) (x1 : Int32) : pz_G (onX1_now σ x1) (oX4_now τ x1) := by
  have em : oX4_now τ x1 = some (-1, pz_m τ 1) := by
    unfold oX4_now
    rw [h.2.1]
    rfl
  rw [show onX1_now σ x1 = some (-1, pz_x σ 1) from rfl, em]
  exact pn_no h (by decide)
theorem pn_past (h : pz_N σ τ) (x1 : Int32) : pz_G (onX1_past σ x1) (oX4_past τ x1) := by
  have em : oX4_past τ x1 = some (-1, pz_m τ 1) := by
    unfold oX4_past
    rw [h.2.1]
    rfl
  rw [show onX1_past σ x1 = some (-1, pz_x σ 1) from rfl, em]
  exact pn_no h (by decide)
theorem pn_log (h : pz_N σ τ) (x1 x2 : Int32) : pz_G (onX1_log σ x1 x2) (oX4_log τ x1 x2) := by
  have em : oX4_log τ x1 x2 = some (-1, pz_m τ 1) := by
    unfold oX4_log
    rw [h.2.1]
    rfl
  rw [show onX1_log σ x1 x2 = some (-1, pz_x σ 1) from rfl, em]
  exact pn_no h (by decide)
theorem pn_would (h : pz_N σ τ) (x1 : Int32) : pz_G (onX1_would σ x1) (oX4_would τ x1) := by
  have em : oX4_would τ x1 = some (-1, pz_m τ 1) := by
    unfold oX4_would
    rw [h.2.1]
    rfl
  rw [show onX1_would σ x1 = some (-1, pz_x σ 1) from rfl, em]
  exact pn_no h (by decide)
theorem pn_will (h : pz_N σ τ) (x1 x2 : Int32) : pz_G (onX1_will σ x1 x2) (oX4_will τ x1 x2) := by
  have em : oX4_will τ x1 x2 = some (-1, pz_m τ 1) := by
    unfold oX4_will
    rw [h.2.1]
    rfl
  rw [show onX1_will σ x1 x2 = some (-1, pz_x σ 1) from rfl, em]
  exact pn_no h (by decide)
theorem pn_ticks (h : pz_N σ τ) (x1 : Int32) : pz_G (onX1_ticks σ x1) (oX4_ticks τ x1) := by
  have em : oX4_ticks τ x1 = some (-1, pz_m τ 1) := by
    unfold oX4_ticks
    rw [h.2.1]
    rfl
  rw [show onX1_ticks σ x1 = some (-1, pz_x σ 1) from rfl, em]
  exact pn_no h (by decide)
theorem pn_stick (h : pz_N σ τ) (x1 x2 : Int32) : pz_G (onX1_stick σ x1 x2) (oX4_stick τ x1 x2) := by
  have em : oX4_stick τ x1 x2 = some (-1, pz_m τ 1) := by
    unfold oX4_stick
    rw [h.2.1]
    rfl
  rw [show onX1_stick σ x1 x2 = some (-1, pz_x σ 1) from rfl, em]
  exact pn_no h (by decide)
theorem pn_idle (h : pz_N σ τ) : pz_G (onX1_idle σ) (oX4_idle τ) := by
  have em : oX4_idle τ = some (-1, pz_m τ 1) := by
    unfold oX4_idle
    rw [h.2.1]
    rfl
  rw [show onX1_idle σ = some (-1, pz_x σ 1) from rfl, em]
  exact pn_no h (by decide)
theorem pn_longest (h : pz_N σ τ) : pz_G (onX1_longest σ) (oX4_longest τ) := by
  have em : oX4_longest τ = some (-1, pz_m τ 1) := by
    unfold oX4_longest
    rw [h.2.1]
    rfl
  rw [show onX1_longest σ = some (-1, pz_x σ 1) from rfl, em]
  exact pn_no h (by decide)
theorem pn_board (h : pz_N σ τ) (x1 x2 : Int32) : pz_G (onX1_board σ x1 x2) (oX4_board τ x1 x2) := by
  have em : oX4_board τ x1 x2 = some (-1, pz_m τ 1) := by
    unfold oX4_board
    rw [pn_brd h]
    rfl
  rw [show onX1_board σ x1 x2 = some (-1, pz_x σ 1) from rfl, em]
  exact pn_no h (by decide)
theorem pn_word (h : pz_N σ τ) (x1 x2 : Int32) : pz_G (onX1_word σ x1 x2) (oX4_word τ x1 x2) := by
  have em : oX4_word τ x1 x2 = some (-1, pz_m τ 1) := by
    unfold oX4_word
    rw [pn_brd h]
    rfl
  rw [show onX1_word σ x1 x2 = some (-1, pz_x σ 1) from rfl, em]
  exact pn_no h (by decide)
theorem pn_ledger (h : pz_N σ τ) (x1 x2 : Int32) : pz_G (onX1_ledger σ x1 x2) (oX4_ledger τ x1 x2) := by
  have em : oX4_ledger τ x1 x2 = some (-1, pz_m τ 1) := by
    unfold oX4_ledger
    rw [pn_brd h]
    rfl
  rw [show onX1_ledger σ x1 x2 = some (-1, pz_x σ 1) from rfl, em]
  exact pn_no h (by decide)
theorem pn_waiting (h : pz_N σ τ) (x1 : Int32) : pz_G (onX1_waiting σ x1) (oX4_waiting τ x1) := by
  have em : oX4_waiting τ x1 = some (-1, pz_m τ 1) := by
    unfold oX4_waiting
    rw [pn_brd h]
    rfl
  rw [show onX1_waiting σ x1 = some (-1, pz_x σ 1) from rfl, em]
  exact pn_no h (by decide)
theorem pn_ask (h : pz_N σ τ) (x1 x2 : Int32) : pz_G (onX1_ask σ x1 x2) (oX4_ask τ x1 x2) := by
  have em : oX4_ask τ x1 x2 = some (-1, pz_m τ 1) := by
    unfold oX4_ask
    rw [pn_brd h]
    rfl
  rw [show onX1_ask σ x1 x2 = some (-1, pz_x σ 1) from rfl, em]
  exact pn_no h (by decide)
theorem pn_waits (h : pz_N σ τ) (x1 x2 : Int32) : pz_G (onX1_waits σ x1 x2) (oX4_waits τ x1 x2) := by
  have em : oX4_waits τ x1 x2 = some (-1, pz_m τ 1) := by
    unfold oX4_waits
    rw [pn_brd h]
    rfl
  rw [show onX1_waits σ x1 x2 = some (-1, pz_x σ 1) from rfl, em]
  exact pn_no h (by decide)
theorem pn_till (h : pz_N σ τ) (x1 : Int32) : pz_G (onX1_till σ x1) (oX4_till τ x1) := by
  have em : oX4_till τ x1 = some (-1, pz_m τ 1) := by
    unfold oX4_till
    rw [pn_brd h]
    rfl
  rw [show onX1_till σ x1 = some (-1, pz_x σ 1) from rfl, em]
  exact pn_no h (by decide)
theorem pn_winners (h : pz_N σ τ) (x1 x2 x3 : Int32) : pz_G (onX1_winners σ x1 x2 x3) (oX4_winners τ x1 x2 x3) := by
  have em : oX4_winners τ x1 x2 x3 = some (-1, pz_m τ 1) := by
    unfold oX4_winners
    rw [pn_why h]
    rfl
  rw [show onX1_winners σ x1 x2 x3 = some (-1, pz_x σ 1) from rfl, em]
  exact pn_no h (by decide)
theorem pn_settles (h : pz_N σ τ) (x1 x2 : Int32) : pz_G (onX1_settles σ x1 x2) (oX4_settles τ x1 x2) := by
  have em : oX4_settles τ x1 x2 = some (-1, pz_m τ 1) := by
    unfold oX4_settles
    rw [pn_why h]
    rfl
  rw [show onX1_settles σ x1 x2 = some (-1, pz_x σ 1) from rfl, em]
  exact pn_no h (by decide)
theorem pn_sure (h : pz_N σ τ) (x1 x2 : Int32) : pz_G (onX1_sure σ x1 x2) (oX4_sure τ x1 x2) := by
  have em : oX4_sure τ x1 x2 = some (-1, pz_m τ 1) := by
    unfold oX4_sure
    rw [pn_why h]
    rfl
  rw [show onX1_sure σ x1 x2 = some (-1, pz_x σ 1) from rfl, em]
  exact pn_no h (by decide)
theorem pn_right (h : pz_N σ τ) (x1 x2 : Int32) : pz_G (onX1_right σ x1 x2) (oX4_right τ x1 x2) := by
  have em : oX4_right τ x1 x2 = some (-1, pz_m τ 1) := by
    unfold oX4_right
    rw [pn_why h]
    rfl
  rw [show onX1_right σ x1 x2 = some (-1, pz_x σ 1) from rfl, em]
  exact pn_no h (by decide)
theorem pn_dips (h : pz_N σ τ) (x1 x2 : Int32) : pz_G (onX1_dips σ x1 x2) (oX4_dips τ x1 x2) := by
  have em : oX4_dips τ x1 x2 = some (-1, pz_m τ 1) := by
    unfold oX4_dips
    rw [pn_why h]
    rfl
  rw [show onX1_dips σ x1 x2 = some (-1, pz_x σ 1) from rfl, em]
  exact pn_no h (by decide)
theorem pn_faulty (h : pz_N σ τ) (x1 x2 x3 : Int32) : pz_G (onX1_faulty σ x1 x2 x3) (oX4_faulty τ x1 x2 x3) := by
  have em : oX4_faulty τ x1 x2 x3 = some (-1, pz_m τ 1) := by
    unfold oX4_faulty
    rw [pn_why h]
    rfl
  rw [show onX1_faulty σ x1 x2 x3 = some (-1, pz_x σ 1) from rfl, em]
  exact pn_no h (by decide)
theorem pn_filters (h : pz_N σ τ) (x1 x2 : Int32) : pz_G (onX1_filters σ x1 x2) (oX4_filters τ x1 x2) := by
  have em : oX4_filters τ x1 x2 = some (-1, pz_m τ 1) := by
    unfold oX4_filters
    rw [pn_why h]
    rfl
  rw [show onX1_filters σ x1 x2 = some (-1, pz_x σ 1) from rfl, em]
  exact pn_no h (by decide)
theorem pn_settled (h : pz_N σ τ) (x1 x2 : Int32) : pz_G (onX1_settled σ x1 x2) (oX4_settled τ x1 x2) := by
  have em : oX4_settled τ x1 x2 = some (-1, pz_m τ 1) := by
    unfold oX4_settled
    rw [pn_why h]
    rfl
  rw [show onX1_settled σ x1 x2 = some (-1, pz_x σ 1) from rfl, em]
  exact pn_no h (by decide)
theorem pn_slowest (h : pz_N σ τ) (x1 : Int32) : pz_G (onX1_slowest σ x1) (oX4_slowest τ x1) := by
  have em : oX4_slowest τ x1 = some (-1, pz_m τ 1) := by
    unfold oX4_slowest
    rw [pn_why h]
    rfl
  rw [show onX1_slowest σ x1 = some (-1, pz_x σ 1) from rfl, em]
  exact pn_no h (by decide)
theorem pn_enough (h : pz_N σ τ) (x1 : Int32) : pz_G (onX1_enough σ x1) (oX4_enough τ x1) := by
  have em : oX4_enough τ x1 = some (-1, pz_m τ 1) := by
    unfold oX4_enough
    rw [pn_why h]
    rfl
  rw [show onX1_enough σ x1 = some (-1, pz_x σ 1) from rfl, em]
  exact pn_no h (by decide)
theorem pn_drives (h : pz_N σ τ) (x1 x2 x3 x4 : Int32) : pz_G (onX1_drives σ x1 x2 x3 x4) (oX4_drives τ x1 x2 x3 x4) := by
  have em : oX4_drives τ x1 x2 x3 x4 = some (-1, pz_m τ 1) := by
    unfold oX4_drives
    rw [pn_brd h, Option.bind_some, pn_why h]
    rfl
  rw [show onX1_drives σ x1 x2 x3 x4 = some (-1, pz_x σ 1) from rfl, em]
  exact pn_no h (by decide)
theorem pn_seen (h : pz_N σ τ) (x1 x2 x3 x4 : Int32) : pz_G (onX1_seen σ x1 x2 x3 x4) (oX4_seen τ x1 x2 x3 x4) := by
  have em : oX4_seen τ x1 x2 x3 x4 = some (-1, pz_m τ 1) := by
    unfold oX4_seen
    rw [pn_brd h, Option.bind_some, pn_why h]
    rfl
  rw [show onX1_seen σ x1 x2 x3 x4 = some (-1, pz_x σ 1) from rfl, em]
  exact pn_no h (by decide)
theorem pn_taken (h : pz_N σ τ) (x1 x2 x3 x4 : Int32) : pz_G (onX1_taken σ x1 x2 x3 x4) (oX4_taken τ x1 x2 x3 x4) := by
  have em : oX4_taken τ x1 x2 x3 x4 = some (-1, pz_m τ 1) := by
    unfold oX4_taken
    rw [pn_brd h, Option.bind_some, pn_why h]
    rfl
  rw [show onX1_taken σ x1 x2 x3 x4 = some (-1, pz_x σ 1) from rfl, em]
  exact pn_no h (by decide)
theorem pn_withdrawn (h : pz_N σ τ) (x1 x2 x3 x4 : Int32) : pz_G (onX1_withdrawn σ x1 x2 x3 x4) (oX4_withdrawn τ x1 x2 x3 x4) := by
  have em : oX4_withdrawn τ x1 x2 x3 x4 = some (-1, pz_m τ 1) := by
    unfold oX4_withdrawn
    rw [pn_brd h, Option.bind_some, pn_why h]
    rfl
  rw [show onX1_withdrawn σ x1 x2 x3 x4 = some (-1, pz_x σ 1) from rfl, em]
  exact pn_no h (by decide)
theorem pn_edges (h : pz_N σ τ) (x1 x2 x3 x4 : Int32) : pz_G (onX1_edges σ x1 x2 x3 x4) (oX4_edges τ x1 x2 x3 x4) := by
  have em : oX4_edges τ x1 x2 x3 x4 = some (-1, pz_m τ 1) := by
    unfold oX4_edges oX4_edges_L25
    rw [pn_brd h, Option.bind_some, if_pos rfl, pn_why h]
    rfl
  rw [show onX1_edges σ x1 x2 x3 x4 = some (-1, pz_x σ 1) from rfl, em]
  exact pn_no h (by decide)
theorem pn_keep (h : pz_N σ τ) : pz_G (onX1_keep σ) (oX4_keep τ) := by
  have em : oX4_keep τ = some (0, pz_m τ 1) := by
    unfold oX4_keep
    rw [h.2.1]
    rfl
  rw [show onX1_keep σ = some (0, pz_x σ 1) from rfl, em]
  exact pn_no h (by decide)
theorem pn_back (h : pz_N σ τ) : pz_G (onX1_back σ) (oX4_back τ) := by
  have e10 : σ.1 0 10 = 0 := h.1.2.2.2.1.trans h.2.2.1
  have em : oX4_back τ = some (0, pz_m τ 1) := by
    unfold oX4_back
    rw [h.2.2.1]
    rfl
  have ex : onX1_back σ = some (0, pz_x (ol_xs σ 0 11 (-1)) 1) := by
    unfold onX1_back onX1_back_L18
    rw [if_pos e10]
    show ((oX1_granted (ol_xs σ 0 11 (-1)) ((ol_xs σ 0 11 (-1)).1 0 10)).bind fun y3 => (ol_og (ol_zb y3.1) (some (y3.1, y3.2)))) = _
    rw [px_nk (by decide), e10]
    rfl
  rw [ex, em]
  refine ⟨_, _, _, rfl, rfl, pz_xT 1 (by decide) mx_eq, h.of ⟨fun c k c1 c2 => ?_, fun _ _ => rfl, fun _ _ => rfl⟩ (pz_mF 1)⟩
  rw [pz_xc 1 c k c1, pl_xs]
  by_cases q : c = 0 ∧ k = 11
  · rw [if_pos q, q.1, q.2]
    exact h.2.2.2.1.symm
  · rw [if_neg q]
end PCX
