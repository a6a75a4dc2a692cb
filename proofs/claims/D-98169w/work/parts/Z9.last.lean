theorem zz_base_ok : True := trivial
