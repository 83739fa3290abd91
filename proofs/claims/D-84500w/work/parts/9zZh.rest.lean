/-! ===== all pairs of the law but load ===== -/
set_option maxRecDepth 20000
theorem LW_rest {L : Nat} {x : Nat → Int} (o1 : oD1 (fun k I Y => LW L x SXc k I I Y)) : oDall (fun k I Y => LW L x SXc k I I Y) := LW_all SX_K SX_D o1 (d_weigh SX_K SX_W SX_G) (d_count SX_K SX_C) (d_path SX_K SX_P) (d_most SX_K) (d_parts SX_K) (d_bound SX_K SX_B) (d_worst SX_K SX_B)
