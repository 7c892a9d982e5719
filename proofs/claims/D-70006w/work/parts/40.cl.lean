/-! the classes by number -/
def ep_T0 : u_T := fun _ => ("", "", "", false)
abbrev ep_cl : List vw_C := [(RX0, TX0, 25), (RX1, TX1, 11), (RX2, TX2, 5), (RX3, TX3, 2), (RX4, TX4, 32), (RX5, TX5, 11), (RX6, TX6, 8), (RX7, TX7, 4), ("EchoPens$Plain", ep_T0, 0), ("EchoPens$Runt", ep_T0, 0), ("EchoPens$Twin", ep_T0, 0), ("EchoPens$Wild", ep_T0, 0), (RJ3, TJ3, 2)]
