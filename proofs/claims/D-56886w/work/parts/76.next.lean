/-! ===== Lower.next() (rows printed by tools/p76.py) ===== -/
set_option maxHeartbeats 4000000 in
theorem zNext_all (G : zG) : zNext G := by
  intro σ d q n nx hd hw hq hn
  refine zCall.exact (zCall_of (ls := [(0, .ref q)]) (by decide) (Nat.le_of_ble_eq_true rfl) rfl ?_)
  have hne : q ≠ n := by
    intro h
    subst h
    rcases hn with h9 | ⟨h9, -⟩
    · rw [hq] at h9; cases h9
    · have := hw.2.1 q _ hq
      omega
  refine zr_aload_n dX10_next_0 rfl rfl ?_
  refine zr_gc (by omega) hq hne rfl q1494 (Nat.le_of_ble_eq_true rfl) dX10_next_1 ?_
  refine zr_astore_n (ls2 := [(0, .ref q), (2, .ref n)]) dX10_next_4 rfl (Nat.le_of_ble_eq_true rfl) rfl ?_
  refine zr_aload_n dX10_next_5 rfl rfl ?_
  refine zr_instY hn rfl q1500 q1397 dX10_next_6 ?_
  refine zr_if_eq (tgt := 24) dX10_next_9 (by decide) (fun h9 => absurd h9 (by decide)) (fun _ => ?_)
  refine zr_aload_n dX10_next_12 rfl rfl ?_
  refine zr_castS hn rfl q1500 dX10_next_13 ?_
  refine zr_astore_n (ls2 := [(0, .ref q), (1, .ref n), (2, .ref n)]) dX10_next_16 rfl (Nat.le_of_ble_eq_true rfl) rfl ?_
  refine zr_aload_n dX10_next_17 rfl rfl ?_
  refine zr_getN (k := 6) (v := .int nx) in_X8 hn rfl (Nat.le_of_ble_eq_true rfl) q1415 (.inl rfl) rfl dX10_next_18 ?_
  refine zr_goto (tgt := 25) dX10_next_21 (by decide) ?_
  exact zr_iret rfl rfl dX10_next_25 (⟨rfl, rfl⟩)
theorem c_lay_alll {G : zG} {chk : Bool} (hG : zOk G) (f d : Nat) (hd : 100 + 5 * f ≤ d) : HL G chk f (cLF chk f).1 d := (c_lay_all (zNext_all G) hG f d hd).1
